/-! THE REFERENCE, printed by m18.py: loading, writing, the making -/
set_option maxHeartbeats 4000000 in
set_option maxRecDepth 100000 in
theorem c_X4_fault {D : Gd} {fr : Nat} {m : Nat} {ad : Nat → Nat} {S : Ms} {h : Hm} (hM : MW m ad S h) (hf : 6 ≤ fr) (t : Nat) (ht : S.2 2 = nI t) (ht8 : t ≤ 80) : MX D fr yX4_fault cX4_fault 1 (some .int) m ad h [] (pWrP (sV S 1 0) t) := by
  refine AM.of (lv := [some (.ref m)]) (by decide +kernel) (Nat.le_of_ble_eq_true rfl) rfl (fun z hX hq _ => ?_)
  have hM := hM.rf
  refine aw_ald0 hX dX4_fault_0 ?_
  refine aw_iconst (v := 0) hX dX4_fault_1 (by decide) ?_
  refine mm_put hX hM 1 fp_X4_39 (by decide) dX4_fault_2 (fun hp hM => ?_)
  refine aw_ald0 hX dX4_fault_5 ?_
  refine mm_callx hX hM lk_X4_190 rfl (c_X4_wrong (fr := fr - 1) hM.1 (by omega) t ht ht8) rfl rfl (Nat.le_of_ble_eq_true rfl) (by omega) (by decide) (Nat.le_refl _) (Nat.le_refl _) dX4_fault_6 (fun v9 S6 hp p9 hM => ?_)
  obtain ⟨rfl, w1⟩ := p9
  refine aw_iret hX (Nat.le_refl _) (Nat.le_refl _) dX4_fault_9 (hq _ _ ?_)
  exact ⟨_, ⟨rfl, w1⟩, hM⟩
set_option maxHeartbeats 4000000 in
set_option maxRecDepth 100000 in
theorem c_X4_areThere {D : Gd} {fr : Nat} {m : Nat} {ad : Nat → Nat} {S : Ms} {h : Hm} (hM : MW m ad S h) (hf : 3 ≤ fr) (x : Int32) (n : Nat) (g : Nat → Nat → Int32) (e4 : S.2 4 = x) (e5 : S.2 5 = nI n) (hn : n ≤ 6) (hg : ∀ i, i < n → ∀ w, w < 5 → S.1 7 (5 * i + w) = g i w) : MC D fr yX4_areThere cX4_areThere 4 (some .boolean) m ad h [] (some (.int (bI (pThs (S.1 0) x g n)))) (S) := by
  refine AM.of (lv := [some (.ref m), none, none, none]) (by decide +kernel) (Nat.le_of_ble_eq_true rfl) rfl (fun z hX hq _ => ?_)
  have hM := hM.rf
  refine aw_ald0 hX dX4_areThere_0 ?_
  refine aw_ald0 hX dX4_areThere_1 ?_
  refine mm_get hX hM fg_X4_184 rfl dX4_areThere_2 ?_
  rw [e4]
  refine mm_call hX hM lk_X4_57 rfl (c_X4_isObject (fr := fr - 1) hM.1 (by omega) _) rfl rfl (Nat.le_of_ble_eq_true rfl) (by omega) (by decide) (Nat.le_refl _) (Nat.le_refl _) dX4_areThere_5 (fun hp hM => ?_)
  refine aw_ist1 hX dX4_areThere_8 (by decide) rfl ?_
  refine aw_iconst (v := 0) hX dX4_areThere_9 (by decide) ?_
  refine aw_ist2 hX dX4_areThere_10 (by decide) rfl ?_
  refine gdown (N := n) (P := fun i => ∀ (v3 : Option Value) (h9 : Hm), MR m ad S h h9 → gW z 11 [some (.ref m), some (.int (bI (pThs (S.1 0) x g i))), some (.int (nI i)), v3] [] h9 0 0) (fun i hi ih v3 h9 hM => ?_) 0 (Nat.zero_le _) _ _ hM
  refine aw_ild2 hX dX4_areThere_11 ?_
  refine aw_ald0 hX dX4_areThere_12 ?_
  refine mm_get hX hM fg_X4_171 rfl dX4_areThere_13 ?_
  rw [e5]
  refine aw_icmp_ge hX (tgt := 89) dX4_areThere_16 (by decide) (fun c16 => ?_) (fun c16 => ?_)
  · refine aw_ild1 hX dX4_areThere_89 ?_
    refine aw_zret hX (by first | rfl | exact bI_n _ | (split <;> rfl)) (Nat.le_refl _) (Nat.le_refl _) dX4_areThere_90 (hq _ _ ?_)
    have hi9 : i = n := Nat.le_antisymm hi (nle c16 (by omega) (by omega))
    subst hi9
    exact ⟨rfl, hM⟩
  · have hlt := nnle c16 (by omega) (by omega)
    refine aw_ald0 hX dX4_areThere_19 ?_
    refine mm_get hX hM fg_X4_32 rfl dX4_areThere_20 ?_
    refine aw_iconst (v := 5) hX dX4_areThere_23 (by decide) ?_
    refine aw_ild2 hX dX4_areThere_24 ?_
    refine aw_imul hX dX4_areThere_25 ?_
    refine aw_iconst (v := 1) hX dX4_areThere_26 (by decide) ?_
    refine aw_iadd hX dX4_areThere_27 ?_
    refine mm_ld hX hM (by decide) (5 * i + 1) (ix5 i 1) (by simp only [mLen]; omega) dX4_areThere_28 ?_
    rw [hg i hlt 1 (by decide)]
    refine aw_ist3 hX dX4_areThere_29 (by decide) rfl ?_
    refine aw_ild1 hX dX4_areThere_30 ?_
    refine aw_if_eq hX (tgt := 81) dX4_areThere_31 (by decide) (fun c31 => ?_) (fun c31 => ?_)
    · have b31 := bI_0' c31
      refine aw_iconst (v := 0) hX dX4_areThere_81 (by decide) ?_
      refine aw_ist1 hX dX4_areThere_82 (by decide) rfl ?_
      refine aw_inc2 hX dX4_areThere_83 (by decide) rfl ?_
      refine aw_goto hX (tgt := 11) dX4_areThere_86 (by decide) ?_
      refine gW.to rfl (show _ = [some (.ref m), some (.int (bI (pThs (S.1 0) x g (i + 1)))), some (.int (nI (i + 1))), some (.int (g i 1))] from ?_) rfl rfl (ih hlt _ _ hM)
      first
        | (rw [pThs_0 b31]; rfl)
        | (have e9 : pTh (S.1 0) (g i) = false := by (unfold pTh; rw [b52, show g i 0 = 0 from c44]; rfl)
           rw [pThs_t b31, e9]
           rfl)
        | (have e9 : pTh (S.1 0) (g i) = false := by (unfold pTh; rw [b74, show g i 0 = 1 from c66]; simp)
           rw [pThs_t b31, e9]
           rfl)
        | (have e9 : pTh (S.1 0) (g i) = true := by (unfold pTh; rw [b74, show g i 0 = 1 from c66]; rfl)
           rw [pThs_t b31, e9]
           rfl)
        | (have e9 : pTh (S.1 0) (g i) = true := by (unfold pTh; rw [b52, show g i 0 = 0 from c44]; rfl)
           rw [pThs_t b31, e9]
           rfl)
        | (have e9 : pTh (S.1 0) (g i) = true := by (unfold pTh; rw [decide_eq_true (show ¬ g i 0 = 0 from c44), decide_eq_true (show ¬ g i 0 = 1 from c66)]; rfl)
           rw [pThs_t b31, e9]
           rfl)
    · have b31 := bI_n0 c31
      refine aw_ald0 hX dX4_areThere_34 ?_
      refine mm_get hX hM fg_X4_32 rfl dX4_areThere_35 ?_
      refine aw_iconst (v := 5) hX dX4_areThere_38 (by decide) ?_
      refine aw_ild2 hX dX4_areThere_39 ?_
      refine aw_imul hX dX4_areThere_40 ?_
      refine aw_iconst (v := 0) hX dX4_areThere_41 (by decide) ?_
      refine aw_iadd hX dX4_areThere_42 ?_
      refine mm_ld hX hM (by decide) (5 * i + 0) (ix5 i 0) (by simp only [mLen]; omega) dX4_areThere_43 ?_
      rw [hg i hlt 0 (by decide)]
      refine aw_if_ne hX (tgt := 55) dX4_areThere_44 (by decide) (fun c44 => ?_) (fun c44 => ?_)
      · refine aw_ald0 hX dX4_areThere_55 ?_
        refine mm_get hX hM fg_X4_32 rfl dX4_areThere_56 ?_
        refine aw_iconst (v := 5) hX dX4_areThere_59 (by decide) ?_
        refine aw_ild2 hX dX4_areThere_60 ?_
        refine aw_imul hX dX4_areThere_61 ?_
        refine aw_iconst (v := 0) hX dX4_areThere_62 (by decide) ?_
        refine aw_iadd hX dX4_areThere_63 ?_
        refine mm_ld hX hM (by decide) (5 * i + 0) (ix5 i 0) (by simp only [mLen]; omega) dX4_areThere_64 ?_
        rw [hg i hlt 0 (by decide)]
        refine aw_iconst (v := 1) hX dX4_areThere_65 (by decide) ?_
        refine aw_icmp_ne hX (tgt := 77) dX4_areThere_66 (by decide) (fun c66 => ?_) (fun c66 => ?_)
        · refine aw_iconst (v := 1) hX dX4_areThere_77 (by decide) ?_
          refine aw_goto hX (tgt := 82) dX4_areThere_78 (by decide) ?_
          refine aw_ist1 hX dX4_areThere_82 (by decide) rfl ?_
          refine aw_inc2 hX dX4_areThere_83 (by decide) rfl ?_
          refine aw_goto hX (tgt := 11) dX4_areThere_86 (by decide) ?_
          refine gW.to rfl (show _ = [some (.ref m), some (.int (bI (pThs (S.1 0) x g (i + 1)))), some (.int (nI (i + 1))), some (.int (g i 1))] from ?_) rfl rfl (ih hlt _ _ hM)
          first
            | (rw [pThs_0 b31]; rfl)
            | (have e9 : pTh (S.1 0) (g i) = false := by (unfold pTh; rw [b52, show g i 0 = 0 from c44]; rfl)
               rw [pThs_t b31, e9]
               rfl)
            | (have e9 : pTh (S.1 0) (g i) = false := by (unfold pTh; rw [b74, show g i 0 = 1 from c66]; simp)
               rw [pThs_t b31, e9]
               rfl)
            | (have e9 : pTh (S.1 0) (g i) = true := by (unfold pTh; rw [b74, show g i 0 = 1 from c66]; rfl)
               rw [pThs_t b31, e9]
               rfl)
            | (have e9 : pTh (S.1 0) (g i) = true := by (unfold pTh; rw [b52, show g i 0 = 0 from c44]; rfl)
               rw [pThs_t b31, e9]
               rfl)
            | (have e9 : pTh (S.1 0) (g i) = true := by (unfold pTh; rw [decide_eq_true (show ¬ g i 0 = 0 from c44), decide_eq_true (show ¬ g i 0 = 1 from c66)]; rfl)
               rw [pThs_t b31, e9]
               rfl)
        · refine aw_ald0 hX dX4_areThere_69 ?_
          refine aw_ild3 hX dX4_areThere_70 ?_
          refine mm_call hX hM lk_X4_85 rfl (c_X4_isGroup (fr := fr - 1) hM.1 (by omega) _) rfl rfl (Nat.le_of_ble_eq_true rfl) (by omega) (by decide) (Nat.le_refl _) (Nat.le_refl _) dX4_areThere_71 (fun hp hM => ?_)
          refine aw_if_eq hX (tgt := 81) dX4_areThere_74 (by decide) (fun c74 => ?_) (fun c74 => ?_)
          · have b74 := bI_0' c74
            refine aw_iconst (v := 0) hX dX4_areThere_81 (by decide) ?_
            refine aw_ist1 hX dX4_areThere_82 (by decide) rfl ?_
            refine aw_inc2 hX dX4_areThere_83 (by decide) rfl ?_
            refine aw_goto hX (tgt := 11) dX4_areThere_86 (by decide) ?_
            refine gW.to rfl (show _ = [some (.ref m), some (.int (bI (pThs (S.1 0) x g (i + 1)))), some (.int (nI (i + 1))), some (.int (g i 1))] from ?_) rfl rfl (ih hlt _ _ hM)
            first
              | (rw [pThs_0 b31]; rfl)
              | (have e9 : pTh (S.1 0) (g i) = false := by (unfold pTh; rw [b52, show g i 0 = 0 from c44]; rfl)
                 rw [pThs_t b31, e9]
                 rfl)
              | (have e9 : pTh (S.1 0) (g i) = false := by (unfold pTh; rw [b74, show g i 0 = 1 from c66]; simp)
                 rw [pThs_t b31, e9]
                 rfl)
              | (have e9 : pTh (S.1 0) (g i) = true := by (unfold pTh; rw [b74, show g i 0 = 1 from c66]; rfl)
                 rw [pThs_t b31, e9]
                 rfl)
              | (have e9 : pTh (S.1 0) (g i) = true := by (unfold pTh; rw [b52, show g i 0 = 0 from c44]; rfl)
                 rw [pThs_t b31, e9]
                 rfl)
              | (have e9 : pTh (S.1 0) (g i) = true := by (unfold pTh; rw [decide_eq_true (show ¬ g i 0 = 0 from c44), decide_eq_true (show ¬ g i 0 = 1 from c66)]; rfl)
                 rw [pThs_t b31, e9]
                 rfl)
          · have b74 := bI_n0 c74
            refine aw_iconst (v := 1) hX dX4_areThere_77 (by decide) ?_
            refine aw_goto hX (tgt := 82) dX4_areThere_78 (by decide) ?_
            refine aw_ist1 hX dX4_areThere_82 (by decide) rfl ?_
            refine aw_inc2 hX dX4_areThere_83 (by decide) rfl ?_
            refine aw_goto hX (tgt := 11) dX4_areThere_86 (by decide) ?_
            refine gW.to rfl (show _ = [some (.ref m), some (.int (bI (pThs (S.1 0) x g (i + 1)))), some (.int (nI (i + 1))), some (.int (g i 1))] from ?_) rfl rfl (ih hlt _ _ hM)
            first
              | (rw [pThs_0 b31]; rfl)
              | (have e9 : pTh (S.1 0) (g i) = false := by (unfold pTh; rw [b52, show g i 0 = 0 from c44]; rfl)
                 rw [pThs_t b31, e9]
                 rfl)
              | (have e9 : pTh (S.1 0) (g i) = false := by (unfold pTh; rw [b74, show g i 0 = 1 from c66]; simp)
                 rw [pThs_t b31, e9]
                 rfl)
              | (have e9 : pTh (S.1 0) (g i) = true := by (unfold pTh; rw [b74, show g i 0 = 1 from c66]; rfl)
                 rw [pThs_t b31, e9]
                 rfl)
              | (have e9 : pTh (S.1 0) (g i) = true := by (unfold pTh; rw [b52, show g i 0 = 0 from c44]; rfl)
                 rw [pThs_t b31, e9]
                 rfl)
              | (have e9 : pTh (S.1 0) (g i) = true := by (unfold pTh; rw [decide_eq_true (show ¬ g i 0 = 0 from c44), decide_eq_true (show ¬ g i 0 = 1 from c66)]; rfl)
                 rw [pThs_t b31, e9]
                 rfl)
      · refine aw_ald0 hX dX4_areThere_47 ?_
        refine aw_ild3 hX dX4_areThere_48 ?_
        refine mm_call hX hM lk_X4_82 rfl (c_X4_isUser (fr := fr - 1) hM.1 (by omega) _) rfl rfl (Nat.le_of_ble_eq_true rfl) (by omega) (by decide) (Nat.le_refl _) (Nat.le_refl _) dX4_areThere_49 (fun hp hM => ?_)
        refine aw_if_eq hX (tgt := 81) dX4_areThere_52 (by decide) (fun c52 => ?_) (fun c52 => ?_)
        · have b52 := bI_0' c52
          refine aw_iconst (v := 0) hX dX4_areThere_81 (by decide) ?_
          refine aw_ist1 hX dX4_areThere_82 (by decide) rfl ?_
          refine aw_inc2 hX dX4_areThere_83 (by decide) rfl ?_
          refine aw_goto hX (tgt := 11) dX4_areThere_86 (by decide) ?_
          refine gW.to rfl (show _ = [some (.ref m), some (.int (bI (pThs (S.1 0) x g (i + 1)))), some (.int (nI (i + 1))), some (.int (g i 1))] from ?_) rfl rfl (ih hlt _ _ hM)
          first
            | (rw [pThs_0 b31]; rfl)
            | (have e9 : pTh (S.1 0) (g i) = false := by (unfold pTh; rw [b52, show g i 0 = 0 from c44]; rfl)
               rw [pThs_t b31, e9]
               rfl)
            | (have e9 : pTh (S.1 0) (g i) = false := by (unfold pTh; rw [b74, show g i 0 = 1 from c66]; simp)
               rw [pThs_t b31, e9]
               rfl)
            | (have e9 : pTh (S.1 0) (g i) = true := by (unfold pTh; rw [b74, show g i 0 = 1 from c66]; rfl)
               rw [pThs_t b31, e9]
               rfl)
            | (have e9 : pTh (S.1 0) (g i) = true := by (unfold pTh; rw [b52, show g i 0 = 0 from c44]; rfl)
               rw [pThs_t b31, e9]
               rfl)
            | (have e9 : pTh (S.1 0) (g i) = true := by (unfold pTh; rw [decide_eq_true (show ¬ g i 0 = 0 from c44), decide_eq_true (show ¬ g i 0 = 1 from c66)]; rfl)
               rw [pThs_t b31, e9]
               rfl)
        · have b52 := bI_n0 c52
          refine aw_ald0 hX dX4_areThere_55 ?_
          refine mm_get hX hM fg_X4_32 rfl dX4_areThere_56 ?_
          refine aw_iconst (v := 5) hX dX4_areThere_59 (by decide) ?_
          refine aw_ild2 hX dX4_areThere_60 ?_
          refine aw_imul hX dX4_areThere_61 ?_
          refine aw_iconst (v := 0) hX dX4_areThere_62 (by decide) ?_
          refine aw_iadd hX dX4_areThere_63 ?_
          refine mm_ld hX hM (by decide) (5 * i + 0) (ix5 i 0) (by simp only [mLen]; omega) dX4_areThere_64 ?_
          rw [hg i hlt 0 (by decide)]
          refine aw_iconst (v := 1) hX dX4_areThere_65 (by decide) ?_
          refine aw_icmp_ne hX (tgt := 77) dX4_areThere_66 (by decide) (fun _ => ?_) (fun c => absurd c (fun e => by rw [c44] at e; exact absurd e (by decide)))
          refine aw_iconst (v := 1) hX dX4_areThere_77 (by decide) ?_
          refine aw_goto hX (tgt := 82) dX4_areThere_78 (by decide) ?_
          refine aw_ist1 hX dX4_areThere_82 (by decide) rfl ?_
          refine aw_inc2 hX dX4_areThere_83 (by decide) rfl ?_
          refine aw_goto hX (tgt := 11) dX4_areThere_86 (by decide) ?_
          refine gW.to rfl (show _ = [some (.ref m), some (.int (bI (pThs (S.1 0) x g (i + 1)))), some (.int (nI (i + 1))), some (.int (g i 1))] from ?_) rfl rfl (ih hlt _ _ hM)
          first
            | (rw [pThs_0 b31]; rfl)
            | (have e9 : pTh (S.1 0) (g i) = false := by (unfold pTh; rw [b52, show g i 0 = 0 from c44]; rfl)
               rw [pThs_t b31, e9]
               rfl)
            | (have e9 : pTh (S.1 0) (g i) = false := by (unfold pTh; rw [b74, show g i 0 = 1 from c66]; simp)
               rw [pThs_t b31, e9]
               rfl)
            | (have e9 : pTh (S.1 0) (g i) = true := by (unfold pTh; rw [b74, show g i 0 = 1 from c66]; rfl)
               rw [pThs_t b31, e9]
               rfl)
            | (have e9 : pTh (S.1 0) (g i) = true := by (unfold pTh; rw [b52, show g i 0 = 0 from c44]; rfl)
               rw [pThs_t b31, e9]
               rfl)
            | (have e9 : pTh (S.1 0) (g i) = true := by (unfold pTh; rw [decide_eq_true (show ¬ g i 0 = 0 from c44), decide_eq_true (show ¬ g i 0 = 1 from c66)]; rfl)
               rw [pThs_t b31, e9]
               rfl)
set_option maxHeartbeats 4000000 in
set_option maxRecDepth 100000 in
theorem c_X4_loadEntries {D : Gd} {fr : Nat} {m : Nat} {ad : Nat → Nat} {S : Ms} {h : Hm} (hM : MW m ad S h) (hf : 6 ≤ fr) (ok : MOk S) (t : Nat) (ht : S.2 2 = nI t) (ht8 : t ≤ 80) : MX D fr yX4_loadEntries cX4_loadEntries 2 (some .int) m ad h [] (fun v S' => v = some (.int (mop_loadEntries S).2.1) ∧ mEq S' (mop_loadEntries S).2.2) := by
  refine AM.of (lv := [some (.ref m), none]) (by decide +kernel) (Nat.le_of_ble_eq_true rfl) rfl (fun z hX hq _ => ?_)
  have hM := hM.rf
  refine aw_ald0 hX dX4_loadEntries_0 ?_
  refine aw_iconst (v := 0) hX dX4_loadEntries_1 (by decide) ?_
  refine mm_put hX hM 1 fp_X4_39 (by decide) dX4_loadEntries_2 (fun hp hM => ?_)
  refine aw_ald0 hX dX4_loadEntries_5 ?_
  refine mm_callx hX hM lk_X4_190 rfl (c_X4_wrong (fr := fr - 1) hM.1 (by omega) t ht ht8) rfl rfl (Nat.le_of_ble_eq_true rfl) (by omega) (by decide) (Nat.le_refl _) (Nat.le_refl _) dX4_loadEntries_6 (fun v9 S6 hp p9 hM => ?_)
  obtain ⟨rfl, w1, w2⟩ := p9
  refine aw_iconst (v := -1) hX dX4_loadEntries_9 (by decide) ?_
  refine aw_icmp_ne hX (tgt := 20) dX4_loadEntries_10 (by decide) (fun c10 => ?_) (fun c10 => ?_)
  · refine aw_ald0 hX dX4_loadEntries_20 ?_
    refine aw_iconst (v := 1) hX dX4_loadEntries_21 (by decide) ?_
    refine mm_call hX hM lk_X4_76 rfl (c_X4_fails (fr := fr - 1) hM.1 (by omega) 1) rfl rfl (Nat.le_of_ble_eq_true rfl) (by omega) (by decide) (Nat.le_refl _) (Nat.le_refl _) dX4_loadEntries_22 (fun hp hM => ?_)
    refine aw_iret hX (Nat.le_refl _) (Nat.le_refl _) dX4_loadEntries_25 (hq _ _ ?_)
    rw [mop_load_0 (S := S) (by rw [mLdOk_t ht ht8]; rw [decide_eq_false (show ¬ (pPlan (S.1 4) t).1 = -1 from c10)]; rfl)]
    exact ⟨_, ⟨rfl, mEq_bad w1 1⟩, hM⟩
  · obtain ⟨q4, n, hn6, q5, hG⟩ := w2 c10
    have e0 : S6.1 0 = S.1 0 := w1.1 0 (by decide)
    refine aw_ald0 hX dX4_loadEntries_13 ?_
    refine mm_call hX hM lk_X4_193 rfl (c_X4_areThere (fr := fr - 1) hM.1 (by omega) (pPlan (S.1 4) t).2.1 n (lG (pPlan (S.1 4) t).2.2) q4 q5 hn6 hG.2) rfl rfl (Nat.le_of_ble_eq_true rfl) (by omega) (by decide) (Nat.le_refl _) (Nat.le_refl _) dX4_loadEntries_14 (fun hp hM => ?_)
    rw [e0, ← hG.1]
    refine aw_if_ne hX (tgt := 26) dX4_loadEntries_17 (by decide) (fun c17 => ?_) (fun c17 => ?_)
    · have b17 := bI_n0 c17
      obtain ⟨j, hj, ej, hj1⟩ := mObj_of (pThs_obj b17)
      have q4 : S6.2 4 = nI j := q4.trans ej
      refine aw_ald0 hX dX4_loadEntries_26 ?_
      refine mm_call hX hM lk_X4_79 rfl (c_X4_changes (fr := fr - 1) hM.1 (by omega) (by obtain ⟨p, hp1, hp2⟩ := ok.p; exact ⟨p, hp1, w1.2.1.trans hp2⟩)) rfl rfl (Nat.le_of_ble_eq_true rfl) (by omega) (by decide) (Nat.le_refl _) (Nat.le_refl _) dX4_loadEntries_27 (fun hp hM => ?_)
      refine aw_ald0 hX dX4_loadEntries_30 ?_
      refine mm_get hX hM fg_X4_7 rfl dX4_loadEntries_31 ?_
      refine aw_ald0 hX dX4_loadEntries_34 ?_
      refine mm_get hX hM fg_X4_184 rfl dX4_loadEntries_35 ?_
      refine aw_iconst (v := 5) hX dX4_loadEntries_38 (by decide) ?_
      rw [show (mChg S6).2 4 = nI j from q4]
      refine ss_call hX lk_X4_50 (c_X4_at (fr := fr - 1) (by omega) _ _) rfl rfl (Nat.le_of_ble_eq_true rfl) (by omega) (by decide) (Nat.le_refl _) (Nat.le_refl _) dX4_loadEntries_39 ?_
      refine aw_ald0 hX dX4_loadEntries_42 ?_
      refine mm_get hX hM fg_X4_171 rfl dX4_loadEntries_43 ?_
      refine mm_st hX hM (by decide) (mO j 5) (mO_i j 5) (mO_lt hj (by decide)) dX4_loadEntries_46 (fun hp hM => ?_)
      refine aw_iconst (v := 0) hX dX4_loadEntries_47 (by decide) ?_
      refine aw_ist1 hX dX4_loadEntries_48 (by decide) rfl ?_
      refine gdown (N := 5 * n) (P := fun i => ∀ (h9 : Hm), MR m ad (sA (mChg S6) 0 (fill (fun i => S6.1 7 i) (upd (S6.1 0) (mO j 5) (nI n)) (mE j 0 0) i)) h h9 → gW z 49 [some (.ref m), some (.int (nI i))] [] h9 0 0) (fun i hi ih h9 hM => ?_) 0 (Nat.zero_le _) _ (hM.cg (by rw [fill_0]; show sA (mChg S6) 0 (upd (S6.1 0) (mO j 5) (S6.2 5)) = _; rw [q5]))
      refine aw_ild1 hX dX4_loadEntries_49 ?_
      refine aw_iconst (v := 5) hX dX4_loadEntries_50 (by decide) ?_
      refine aw_ald0 hX dX4_loadEntries_51 ?_
      refine mm_get hX hM fg_X4_171 rfl dX4_loadEntries_52 ?_
      rw [show (sA (mChg S6) 0 _).2 5 = nI n from q5]
      refine aw_imul hX dX4_loadEntries_55 ?_
      rw [show (5 : Int32) * nI n = nI (5 * n) from pk_mul 5 n]
      refine aw_icmp_ge hX (tgt := 85) dX4_loadEntries_56 (by decide) (fun c56 => ?_) (fun c56 => ?_)
      · have hi9 : i = 5 * n := Nat.le_antisymm hi (nle c56 (by omega) (by omega))
        subst hi9
        refine aw_ald0 hX dX4_loadEntries_85 ?_
        refine aw_iconst (v := 0) hX dX4_loadEntries_86 (by decide) ?_
        refine mm_put hX hM 2 fp_X4_159 (by decide) dX4_loadEntries_87 (fun hp hM => ?_)
        refine aw_ald0 hX dX4_loadEntries_90 ?_
        refine mm_get hX hM fg_X4_171 rfl dX4_loadEntries_91 ?_
        refine aw_iret hX (Nat.le_refl _) (Nat.le_refl _) dX4_loadEntries_94 (hq _ _ ?_)
        have hok : mLdOk S = true := by rw [mLdOk_t ht ht8, decide_eq_true (show (pPlan (S.1 4) t).1 = -1 from c10)]; exact b17
        rw [mop_load_1 ht ht8 hok hj ej]
        refine ⟨_, ⟨?_, ?_⟩, hM⟩
        · show some (Value.int (S6.2 5)) = _
          rw [q5, ← hG.1]
          rfl
        · rw [mLd_eq hG.1 hG.2, e0]
          exact mEq_load w1 _ _
      · have hlt := nnle c56 (by omega) (by omega)
        refine aw_ald0 hX dX4_loadEntries_59 ?_
        refine mm_get hX hM fg_X4_7 rfl dX4_loadEntries_60 ?_
        refine aw_ald0 hX dX4_loadEntries_63 ?_
        refine mm_get hX hM fg_X4_184 rfl dX4_loadEntries_64 ?_
        refine aw_iconst (v := 0) hX dX4_loadEntries_67 (by decide) ?_
        refine aw_ild1 hX dX4_loadEntries_68 ?_
        rw [show (sA (mChg S6) 0 _).2 4 = nI j from q4]
        refine ss_call hX lk_X4_61 (c_X4_entryAt (fr := fr - 1) (by omega) _ _ _) rfl rfl (Nat.le_of_ble_eq_true rfl) (by omega) (by decide) (Nat.le_refl _) (Nat.le_refl _) dX4_loadEntries_69 ?_
        refine aw_ald0 hX dX4_loadEntries_72 ?_
        refine mm_get hX hM fg_X4_32 rfl dX4_loadEntries_73 ?_
        refine aw_ild1 hX dX4_loadEntries_76 ?_
        refine mm_ld hX hM (by decide) (i) (rfl) (by simp only [mLen]; omega) dX4_loadEntries_77 ?_
        refine mm_st hX hM (by decide) (mE j 0 i) (mE_i j 0 i) (by simp only [mLen]; unfold mE; omega) dX4_loadEntries_78 (fun hp hM => ?_)
        refine aw_inc1 hX dX4_loadEntries_79 (by decide) rfl ?_
        refine aw_goto hX (tgt := 49) dX4_loadEntries_82 (by decide) ?_
        exact ih hlt _ (hM.cg (by rw [sA_sA, sA_at, show mE j 0 i = mE j 0 0 + i from by unfold mE; omega]; exact congrArg (sA (mChg S6) 0) (fill_s (fun i => S6.1 7 i) (upd (S6.1 0) (mO j 5) (nI n)) (mE j 0 0) i)))
    · have b17 := bI_0' c17
      refine aw_ald0 hX dX4_loadEntries_20 ?_
      refine aw_iconst (v := 1) hX dX4_loadEntries_21 (by decide) ?_
      refine mm_call hX hM lk_X4_76 rfl (c_X4_fails (fr := fr - 1) hM.1 (by omega) 1) rfl rfl (Nat.le_of_ble_eq_true rfl) (by omega) (by decide) (Nat.le_refl _) (Nat.le_refl _) dX4_loadEntries_22 (fun hp hM => ?_)
      refine aw_iret hX (Nat.le_refl _) (Nat.le_refl _) dX4_loadEntries_25 (hq _ _ ?_)
      rw [mop_load_0 (S := S) (by rw [mLdOk_t ht ht8]; rw [show pThs (S.1 0) (pPlan (S.1 4) t).2.1 (lG (pPlan (S.1 4) t).2.2) (pPlan (S.1 4) t).2.2.length = false from b17, Bool.and_false])]
      exact ⟨_, ⟨rfl, mEq_bad w1 1⟩, hM⟩
set_option maxHeartbeats 4000000 in
set_option maxRecDepth 100000 in
theorem c_X4_writeEntries {D : Gd} {fr : Nat} {m : Nat} {ad : Nat → Nat} {S : Ms} {h : Hm} (hM : MW m ad S h) (hf : 4 ≤ fr) (ok : MOk S) (o : Int32) : MC D fr yX4_writeEntries cX4_writeEntries 3 (some .int) m ad h [.int o] (some (.int (mop_writeEntries S o).2.1)) ((mop_writeEntries S o).2.2) := by
  refine AM.of (lv := [some (.ref m), some (.int o), none]) (by decide +kernel) (Nat.le_of_ble_eq_true rfl) rfl (fun z hX hq _ => ?_)
  have hM := hM.rf
  refine aw_ald0 hX dX4_writeEntries_0 ?_
  refine aw_iconst (v := 0) hX dX4_writeEntries_1 (by decide) ?_
  refine mm_put hX hM 1 fp_X4_39 (by decide) dX4_writeEntries_2 (fun hp hM => ?_)
  refine aw_ald0 hX dX4_writeEntries_5 ?_
  refine aw_ild1 hX dX4_writeEntries_6 ?_
  refine mm_call hX hM lk_X4_57 rfl (c_X4_isObject (fr := fr - 1) hM.1 (by omega) _) rfl rfl (Nat.le_of_ble_eq_true rfl) (by omega) (by decide) (Nat.le_refl _) (Nat.le_refl _) dX4_writeEntries_7 (fun hp hM => ?_)
  refine aw_if_ne hX (tgt := 19) dX4_writeEntries_10 (by decide) (fun c10 => ?_) (fun c10 => ?_)
  · have b10 := bI_n0 c10
    obtain ⟨o, ho, rfl, ho1⟩ := mObj_of b10
    obtain ⟨c, hc, ec, -⟩ := ok.wf.co ho ho1
    refine aw_ald0 hX dX4_writeEntries_19 ?_
    refine aw_iconst (v := 0) hX dX4_writeEntries_20 (by decide) ?_
    refine mm_put hX hM 2 fp_X4_159 (by decide) dX4_writeEntries_21 (fun hp hM => ?_)
    refine aw_ald0 hX dX4_writeEntries_24 ?_
    refine aw_ild1 hX dX4_writeEntries_25 ?_
    refine mm_call hX hM lk_X4_200 rfl (c_X4_putsNumber (fr := fr - 1) hM.1 (by omega) 0 rfl (by omega) _) rfl rfl (Nat.le_of_ble_eq_true rfl) (by omega) (by decide) (Nat.le_refl _) (Nat.le_refl _) dX4_writeEntries_26 (fun hp hM => ?_)
    refine aw_ald0 hX dX4_writeEntries_29 ?_
    refine aw_bipush (v := 58) hX dX4_writeEntries_30 (by decide) ?_
    refine mm_call hX hM lk_X4_196 rfl (c_X4_puts (fr := fr - 1) hM.1 (by omega) (0 + (wNum (nI o)).length) (mPuts_2 (S := (sV (sV S 1 0) 2 0)) rfl _) (by have := wNum_le (nI o); omega) _) rfl rfl (Nat.le_of_ble_eq_true rfl) (by omega) (by decide) (Nat.le_refl _) (Nat.le_refl _) dX4_writeEntries_32 (fun hp hM => ?_)
    refine aw_iconst (v := 0) hX dX4_writeEntries_35 (by decide) ?_
    refine aw_ist2 hX dX4_writeEntries_36 (by decide) rfl ?_
    refine gdown (N := c) (P := fun i => ∀ (h9 : Hm), MR m ad (mPuts (sV (sV S 1 0) 2 0) (wText (S.1 0) o i)) h h9 → gW z 37 [some (.ref m), some (.int (nI o)), some (.int (nI i))] [] h9 0 0) (fun i hi ih h9 hM => ?_) 0 (Nat.zero_le _) _ (hM.cg (by rw [mPuts_app]; refine congrArg (mPuts _) ?_; unfold wText; exact (List.append_nil _).symm))
    refine aw_ild2 hX dX4_writeEntries_37 ?_
    refine aw_ald0 hX dX4_writeEntries_38 ?_
    refine aw_ild1 hX dX4_writeEntries_39 ?_
    refine aw_iconst (v := 5) hX dX4_writeEntries_40 (by decide) ?_
    refine mm_call hX hM lk_X4_54 rfl (c_X4_of (fr := fr - 1) hM.1 (by omega) o 5 ho (by decide)) rfl rfl (Nat.le_of_ble_eq_true rfl) (by omega) (by decide) (Nat.le_refl _) (Nat.le_refl _) dX4_writeEntries_41 (fun hp hM => ?_)
    rw [mPuts_0, show (sV (sV S 1 0) 2 0).1 0 (mO o 5) = nI c from ec]
    have g0 := mPuts_2 (S := (sV (sV S 1 0) 2 0)) (k := 0) rfl (wText (S.1 0) o i)
    have g1 : (wText (S.1 0) o i).length ≤ 3 + 11 * i := by
      have h1 := wNum_le (nI o)
      have h2 := wEnts_le (S.1 0) o i
      unfold wText
      simp only [List.length_append, List.length_cons, List.length_nil]
      omega
    refine aw_icmp_ge hX (tgt := 69) dX4_writeEntries_44 (by decide) (fun c44 => ?_) (fun c44 => ?_)
    · refine aw_ald0 hX dX4_writeEntries_69 ?_
      refine mm_get hX hM fg_X4_159 rfl dX4_writeEntries_70 ?_
      refine aw_iret hX (Nat.le_refl _) (Nat.le_refl _) dX4_writeEntries_73 (hq _ _ ?_)
      have hi9 : i = c := Nat.le_antisymm hi (nle c44 (by omega) (by omega))
      subst hi9
      rw [show mop_writeEntries S (nI o) = (0, nI (wText (S.1 0) o i).length, mPuts (sV (sV S 1 0) 2 0) (wText (S.1 0) o i)) from by unfold mop_writeEntries mCo; rw [if_neg (by rw [show mObj (S.1 0) (nI o) = true from b10]; decide), mN_i (show o < 2147483648 by omega), ec, mN_i (show i < 2147483648 by omega)]]
      exact ⟨by rw [g0, Nat.zero_add], hM⟩
    · have hlt := nnle c44 (by omega) (by omega)
      refine aw_ild2 hX dX4_writeEntries_47 ?_
      refine aw_if_le hX (tgt := 57) dX4_writeEntries_48 (by decide) (fun c48 => ?_) (fun c48 => ?_)
      · have hpos : ¬ 0 < i := by have := nle (b := 0) c48 (by omega) (by omega); omega
        refine aw_ald0 hX dX4_writeEntries_57 ?_
        refine aw_ild1 hX dX4_writeEntries_58 ?_
        refine aw_ild2 hX dX4_writeEntries_59 ?_
        refine mm_call hX hM lk_X4_206 rfl (c_X4_putsEntry (fr := fr - 1) hM.1 (by omega) (0 + (wText (S.1 0) o i).length) g0 (by omega) o i ho (by omega)) rfl rfl (Nat.le_of_ble_eq_true rfl) (by omega) (by decide) (Nat.le_refl _) (Nat.le_refl _) dX4_writeEntries_60 (fun hp hM => ?_)
        try rw [show (mPuts (mPuts (sV (sV S 1 0) 2 0) (wText (S.1 0) o i)) [59]).1 0 = S.1 0 from by rw [mPuts_0, mPuts_0]; rfl] at hM
        try rw [show (mPuts (sV (sV S 1 0) 2 0) (wText (S.1 0) o i)).1 0 = S.1 0 from by rw [mPuts_0]; rfl] at hM
        refine aw_inc2 hX dX4_writeEntries_63 (by decide) rfl ?_
        refine aw_goto hX (tgt := 37) dX4_writeEntries_66 (by decide) ?_
        exact ih hlt _ (hM.cg (by
          repeat rw [mPuts_app]
          refine congrArg (mPuts (sV (sV S 1 0) 2 0)) ?_
          unfold wText
          conv => rhs; rw [wEnts]
          first | rw [decide_eq_true hpos] | rw [decide_eq_false hpos]
          simp [wIf, List.append_assoc]))
      · refine aw_ald0 hX dX4_writeEntries_51 ?_
        refine aw_bipush (v := 59) hX dX4_writeEntries_52 (by decide) ?_
        refine mm_call hX hM lk_X4_196 rfl (c_X4_puts (fr := fr - 1) hM.1 (by omega) (0 + (wText (S.1 0) o i).length) g0 (by omega) _) rfl rfl (Nat.le_of_ble_eq_true rfl) (by omega) (by decide) (Nat.le_refl _) (Nat.le_refl _) dX4_writeEntries_54 (fun hp hM => ?_)
        have hpos : 0 < i := nnle (b := 0) c48 (by omega) (by omega)
        refine aw_ald0 hX dX4_writeEntries_57 ?_
        refine aw_ild1 hX dX4_writeEntries_58 ?_
        refine aw_ild2 hX dX4_writeEntries_59 ?_
        refine mm_call hX hM lk_X4_206 rfl (c_X4_putsEntry (fr := fr - 1) hM.1 (by omega) (0 + (wText (S.1 0) o i).length + 1) (mPuts_2 g0 [59]) (by omega) o i ho (by omega)) rfl rfl (Nat.le_of_ble_eq_true rfl) (by omega) (by decide) (Nat.le_refl _) (Nat.le_refl _) dX4_writeEntries_60 (fun hp hM => ?_)
        try rw [show (mPuts (mPuts (sV (sV S 1 0) 2 0) (wText (S.1 0) o i)) [59]).1 0 = S.1 0 from by rw [mPuts_0, mPuts_0]; rfl] at hM
        try rw [show (mPuts (sV (sV S 1 0) 2 0) (wText (S.1 0) o i)).1 0 = S.1 0 from by rw [mPuts_0]; rfl] at hM
        refine aw_inc2 hX dX4_writeEntries_63 (by decide) rfl ?_
        refine aw_goto hX (tgt := 37) dX4_writeEntries_66 (by decide) ?_
        exact ih hlt _ (hM.cg (by
          repeat rw [mPuts_app]
          refine congrArg (mPuts (sV (sV S 1 0) 2 0)) ?_
          unfold wText
          conv => rhs; rw [wEnts]
          first | rw [decide_eq_true hpos] | rw [decide_eq_false hpos]
          simp [wIf, List.append_assoc]))
  · have b10 := bI_0' c10
    refine aw_ald0 hX dX4_writeEntries_13 ?_
    refine aw_iconst (v := 1) hX dX4_writeEntries_14 (by decide) ?_
    refine mm_call hX hM lk_X4_76 rfl (c_X4_fails (fr := fr - 1) hM.1 (by omega) 1) rfl rfl (Nat.le_of_ble_eq_true rfl) (by omega) (by decide) (Nat.le_refl _) (Nat.le_refl _) dX4_writeEntries_15 (fun hp hM => ?_)
    refine aw_iret hX (Nat.le_refl _) (Nat.le_refl _) dX4_writeEntries_18 (hq _ _ ?_)
    first
      | (have e9 : mop_writeEntries S o = mBad S 1 := by (unfold mop_writeEntries; simp [show mObj (S.1 0) o = false from b10])
         rw [e9]
         exact ⟨rfl, hM.cg (sV_sV S 1 0 1)⟩)
