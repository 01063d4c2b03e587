/-! THE REFERENCE, printed by m3.py: what changes its state -/
set_option maxHeartbeats 4000000 in
set_option maxRecDepth 100000 in
theorem c_X4_changes_a {D : Gd} {fr : Nat} {m : Nat} {ad : Nat → Nat} {S : Ms} {h : Hm} (hM : MW m ad S h) (hf : 0 ≤ fr) (p : Nat) (hp : p < 5) (ep : S.2 0 = nI p) : MC D fr yX4_changes cX4_changes 2 none m ad h [] (none) (mChg S) := by
  refine AM.of (lv := [some (.ref m), none]) (by decide +kernel) (Nat.le_of_ble_eq_true rfl) rfl (fun z hX hq _ => ?_)
  have hM := hM.rf
  refine aw_ald0 hX dX4_changes_0 ?_
  refine mm_get hX hM fg_X4_43 rfl dX4_changes_1 ?_
  refine aw_iconst (v := 5) hX dX4_changes_4 (by decide) ?_
  refine aw_icmp_ne hX (tgt := 49) dX4_changes_5 (by decide) (fun _ => ?_) (fun c => absurd c (by rw [ep]; exact fun e => absurd ((nI_eq (b := 5) (by omega) (by omega)).mp e) (by omega)))
  refine aw_iconst (v := 0) hX dX4_changes_49 (by decide) ?_
  refine aw_ist1 hX dX4_changes_50 (by decide) rfl ?_
  refine gdown (N := 765) (P := fun i => ∀ (h9 : Hm), MR m ad (sA S 1 (fill (S.1 0) (S.1 1) (765 * p) i)) h h9 → gW z 51 [some (.ref m), some (.int (nI i))] [] h9 0 0) (fun i hi ih h9 hM => ?_) 0 (Nat.zero_le _) _ (hM.cg (by rw [fill_0]; exact (sA_self S 1).symm))
  refine aw_ild1 hX dX4_changes_51 ?_
  refine aw_sipush (v := 765) hX dX4_changes_52 (by decide) ?_
  refine aw_icmp_ge hX (tgt := 85) dX4_changes_55 (by decide) (fun c55 => ?_) (fun c55 => ?_)
  · refine aw_ald0 hX dX4_changes_85 ?_
    refine aw_dup hX dX4_changes_86 rfl ?_
    refine mm_get hX hM fg_X4_43 rfl dX4_changes_87 ?_
    refine aw_iconst (v := 1) hX dX4_changes_90 (by decide) ?_
    refine aw_iadd hX dX4_changes_91 ?_
    refine mm_put hX hM 0 fp_X4_43 (by decide) dX4_changes_92 (fun hp hM => ?_)
    refine aw_vret hX (Nat.le_refl _) (Nat.le_refl _) dX4_changes_95 (hq _ _ ?_)
    have hi9 : i = 765 := Nat.le_antisymm hi (nle (a := 765) c55 (by omega) (by omega))
    subst hi9
    refine ⟨rfl, hM.cg ?_⟩
    unfold mChg mPast
    have h5 : ¬ nI p = 5 := fun e => absurd ((nI_eq (b := 5) (by omega) (by omega)).mp e) (by omega)
    rw [ep, if_neg h5, nI_clamp (by omega), if_neg (by omega)]
    rw [← ep]
    rfl
  · have hlt := nnle (a := 765) c55 (by omega) (by omega)
    refine aw_ald0 hX dX4_changes_58 ?_
    refine mm_get hX hM fg_X4_13 rfl dX4_changes_59 ?_
    refine aw_sipush (v := 765) hX dX4_changes_62 (by decide) ?_
    refine aw_ald0 hX dX4_changes_65 ?_
    refine mm_get hX hM fg_X4_43 rfl dX4_changes_66 ?_
    refine aw_imul hX dX4_changes_69 ?_
    refine aw_ild1 hX dX4_changes_70 ?_
    refine aw_iadd hX dX4_changes_71 ?_
    refine aw_ald0 hX dX4_changes_72 ?_
    refine mm_get hX hM fg_X4_7 rfl dX4_changes_73 ?_
    refine aw_ild1 hX dX4_changes_76 ?_
    refine mm_ld hX hM (by decide) (i) (rfl) (by first | decide | (simp only [mLen]; omega)) dX4_changes_77 ?_
    refine mm_st hX hM (by decide) (765 * p + i) (by rw [show (sA S 1 (fill (S.1 0) (S.1 1) (765 * p) i)).2 0 = nI p from ep, show (765 : Int32) = nI 765 from rfl, pk_mul, nI_add]) (by simp only [mLen]; omega) dX4_changes_78 (fun hp hM => ?_)
    refine aw_inc1 hX dX4_changes_79 (by decide) rfl ?_
    refine aw_goto hX (tgt := 51) dX4_changes_82 (by decide) ?_
    exact ih hlt _ (hM.cg (by rw [sA_sA, ← fill_s]; rfl))
set_option maxHeartbeats 4000000 in
set_option maxRecDepth 100000 in
theorem c_X4_changes_b {D : Gd} {fr : Nat} {m : Nat} {ad : Nat → Nat} {S : Ms} {h : Hm} (hM : MW m ad S h) (hf : 0 ≤ fr) (ep : S.2 0 = 5) : MC D fr yX4_changes cX4_changes 2 none m ad h [] (none) (mChg S) := by
  refine AM.of (lv := [some (.ref m), none]) (by decide +kernel) (Nat.le_of_ble_eq_true rfl) rfl (fun z hX hq _ => ?_)
  have hM := hM.rf
  refine aw_ald0 hX dX4_changes_0 ?_
  refine mm_get hX hM fg_X4_43 rfl dX4_changes_1 ?_
  refine aw_iconst (v := 5) hX dX4_changes_4 (by decide) ?_
  refine aw_icmp_ne hX (tgt := 49) dX4_changes_5 (by decide) (fun c => absurd (ep) c) (fun _ => ?_)
  refine aw_iconst (v := 0) hX dX4_changes_8 (by decide) ?_
  refine aw_ist1 hX dX4_changes_9 (by decide) rfl ?_
  refine gdown (N := 3060) (P := fun i => ∀ (h9 : Hm), MR m ad (sA S 1 (fill (fun i => S.1 1 (i + 765)) (S.1 1) 0 i)) h h9 → gW z 10 [some (.ref m), some (.int (nI i))] [] h9 0 0) (fun i hi ih h9 hM => ?_) 0 (Nat.zero_le _) _ (hM.cg (by rw [fill_0]; exact (sA_self S 1).symm))
  refine aw_ild1 hX dX4_changes_10 ?_
  refine aw_sipush (v := 3060) hX dX4_changes_11 (by decide) ?_
  refine aw_icmp_ge hX (tgt := 39) dX4_changes_14 (by decide) (fun c14 => ?_) (fun c14 => ?_)
  · have hi9 : i = 3060 := Nat.le_antisymm hi (nle (a := 3060) c14 (by omega) (by omega))
    subst hi9
    refine aw_ald0 hX dX4_changes_39 ?_
    refine aw_dup hX dX4_changes_40 rfl ?_
    refine mm_get hX hM fg_X4_43 rfl dX4_changes_41 ?_
    refine aw_iconst (v := 1) hX dX4_changes_44 (by decide) ?_
    refine aw_isub hX dX4_changes_45 ?_
    refine mm_put hX hM 0 fp_X4_43 (by decide) dX4_changes_46 (fun hp hM => ?_)
    refine aw_iconst (v := 0) hX dX4_changes_49 (by decide) ?_
    refine aw_ist1 hX dX4_changes_50 (by decide) rfl ?_
    have hM := hM.cg (S' := (sV (sA S 1 (fill (fun i => S.1 1 (i + 765)) (S.1 1) 0 3060)) 0 4)) (by rw [show (sA S 1 (fill (fun i => S.1 1 (i + 765)) (S.1 1) 0 3060)).2 0 = 5 from ep]; rfl)
    refine gdown (N := 765) (P := fun i => ∀ (h9 : Hm), MR m ad (sV (sA S 1 (fill (S.1 0) (fill (fun i => S.1 1 (i + 765)) (S.1 1) 0 3060) 3060 i)) 0 4) h h9 → gW z 51 [some (.ref m), some (.int (nI i))] [] h9 0 0) (fun i hi ih h9 hM => ?_) 0 (Nat.zero_le _) _ (hM.cg (by rw [fill_0]))
    refine aw_ild1 hX dX4_changes_51 ?_
    refine aw_sipush (v := 765) hX dX4_changes_52 (by decide) ?_
    refine aw_icmp_ge hX (tgt := 85) dX4_changes_55 (by decide) (fun c55 => ?_) (fun c55 => ?_)
    · refine aw_ald0 hX dX4_changes_85 ?_
      refine aw_dup hX dX4_changes_86 rfl ?_
      refine mm_get hX hM fg_X4_43 rfl dX4_changes_87 ?_
      refine aw_iconst (v := 1) hX dX4_changes_90 (by decide) ?_
      refine aw_iadd hX dX4_changes_91 ?_
      refine mm_put hX hM 0 fp_X4_43 (by decide) dX4_changes_92 (fun hp hM => ?_)
      refine aw_vret hX (Nat.le_refl _) (Nat.le_refl _) dX4_changes_95 (hq _ _ ?_)
      have hi9 : i = 765 := Nat.le_antisymm hi (nle (a := 765) c55 (by omega) (by omega))
      subst hi9
      refine ⟨rfl, hM.cg ?_⟩
      unfold mChg mPast
      rw [ep, if_pos rfl, show (5 : Int32).toNatClampNeg = 5 from rfl, if_pos rfl, sV_sV]
      rfl
    · have hlt := nnle (a := 765) c55 (by omega) (by omega)
      refine aw_ald0 hX dX4_changes_58 ?_
      refine mm_get hX hM fg_X4_13 rfl dX4_changes_59 ?_
      refine aw_sipush (v := 765) hX dX4_changes_62 (by decide) ?_
      refine aw_ald0 hX dX4_changes_65 ?_
      refine mm_get hX hM fg_X4_43 rfl dX4_changes_66 ?_
      refine aw_imul hX dX4_changes_69 ?_
      refine aw_ild1 hX dX4_changes_70 ?_
      refine aw_iadd hX dX4_changes_71 ?_
      refine aw_ald0 hX dX4_changes_72 ?_
      refine mm_get hX hM fg_X4_7 rfl dX4_changes_73 ?_
      refine aw_ild1 hX dX4_changes_76 ?_
      refine mm_ld hX hM (by decide) (i) (rfl) (by first | decide | (simp only [mLen]; omega)) dX4_changes_77 ?_
      refine mm_st hX hM (by decide) (3060 + i) (nI_add 3060 i) (by simp only [mLen]; omega) dX4_changes_78 (fun hp hM => ?_)
      refine aw_inc1 hX dX4_changes_79 (by decide) rfl ?_
      refine aw_goto hX (tgt := 51) dX4_changes_82 (by decide) ?_
      exact ih hlt _ (hM.cg (chg_2 S _ 3060 i))
  · have hlt := nnle (a := 3060) c14 (by omega) (by omega)
    refine aw_ald0 hX dX4_changes_17 ?_
    refine mm_get hX hM fg_X4_13 rfl dX4_changes_18 ?_
    refine aw_ild1 hX dX4_changes_21 ?_
    refine aw_ald0 hX dX4_changes_22 ?_
    refine mm_get hX hM fg_X4_13 rfl dX4_changes_23 ?_
    refine aw_ild1 hX dX4_changes_26 ?_
    refine aw_sipush (v := 765) hX dX4_changes_27 (by decide) ?_
    refine aw_iadd hX dX4_changes_30 ?_
    refine mm_ld hX hM (by decide) (i + 765) (nI_add i 765) (by simp only [mLen]; omega) dX4_changes_31 ?_
    refine mm_st hX hM (by decide) (i) (rfl) (by simp only [mLen]; omega) dX4_changes_32 (fun hp hM => ?_)
    refine aw_inc1 hX dX4_changes_33 (by decide) rfl ?_
    refine aw_goto hX (tgt := 10) dX4_changes_36 (by decide) ?_
    exact ih hlt _ (hM.cg (chg_sh S i))
theorem c_X4_changes {D : Gd} {fr : Nat} {m : Nat} {ad : Nat → Nat} {S : Ms} {h : Hm} (hM : MW m ad S h) (hf : 0 ≤ fr) (hp : ∃ p : Nat, p ≤ 5 ∧ S.2 0 = nI p) : MC D fr yX4_changes cX4_changes 2 none m ad h [] (none) (mChg S) := by
  obtain ⟨p, hp, ep⟩ := hp
  by_cases e : p = 5
  · subst e
    exact c_X4_changes_b hM hf ep
  · exact c_X4_changes_a hM hf p (by omega) ep
