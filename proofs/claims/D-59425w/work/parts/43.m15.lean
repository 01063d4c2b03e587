/-! THE REFERENCE, printed by m15.py: an entry read -/
set_option maxHeartbeats 4000000 in
set_option maxRecDepth 100000 in
theorem c_X4_entryRead {D : Gd} {fr : Nat} {m : Nat} {ad : Nat → Nat} {S : Ms} {h : Hm} (hM : MW m ad S h) (hf : 4 ≤ fr) (t k n : Nat) (ht : Tk S k t) (hpn : S.2 5 = nI n) (hn : n ≤ 5) : MX D fr yX4_entryRead cX4_entryRead 4 (some .boolean) m ad h [] (pEntP S t k n) := by
  refine AM.of (lv := [some (.ref m), none, none, none]) (by decide +kernel) (Nat.le_of_ble_eq_true rfl) rfl (fun z hX hq _ => ?_)
  have hM := hM.rf
  have K112 : ∀ (S9 : Ms) (k9 : Nat) (acc : Int32) (h9 : Hm) (hor : ¬ (pAt (S.1 4) t k 43 43 = false ∧ pAt (S.1 4) t k 45 45 = false)) (hw1 : (pWho (S.1 4) t (k + 1)).1 = true) (hw2 : pAt (S.1 4) t (pWho (S.1 4) t (k + 1)).2.1 61 61 = true), pEI S S9 n k9 (pWho (S.1 4) t (k + 1)).2.2.1 (pWho (S.1 4) t (k + 1)).2.2.2 → k9 ≤ t → (k9, acc) = (pRt (S.1 4) t (pRt (S.1 4) t (pRt (S.1 4) t (pRt (S.1 4) t (((pWho (S.1 4) t (k + 1)).2.1 + 1), 0) 114 1) 119 2) 120 4) 109 8) → MR m ad S9 h h9 → gW z 112 [some (.ref m), some (.int (bI (pAt (S.1 4) t k 43 43))), some (.int (nI (5 * n))), some (.int acc)] [] h9 0 0 := by
    intro S9 k9 acc h9 hor hw1 hw2 hE hk9 hq9 hM
    have ht9 := hE.tk ht hk9
    have hp9 := hE.p
    refine aw_ild3 hX dX4_entryRead_112 ?_
    refine aw_if_ne hX (tgt := 118) dX4_entryRead_113 (by decide) (fun c113 => ?_) (fun c113 => ?_)
    · refine aw_ald0 hX dX4_entryRead_118 ?_
      refine mm_get hX hM fg_X4_32 rfl dX4_entryRead_119 ?_
      refine aw_ild2 hX dX4_entryRead_122 ?_
      refine aw_iconst (v := 2) hX dX4_entryRead_123 (by decide) ?_
      refine aw_iadd hX dX4_entryRead_124 ?_
      refine aw_ild3 hX dX4_entryRead_125 ?_
      refine mm_st hX hM (by decide) (5 * n + 2) (nI_add (5 * n) 2) (by simp only [mLen]; omega) dX4_entryRead_126 (fun hp hM => ?_)
      refine aw_ald0 hX dX4_entryRead_127 ?_
      refine mm_get hX hM fg_X4_32 rfl dX4_entryRead_128 ?_
      refine aw_ild2 hX dX4_entryRead_131 ?_
      refine aw_iconst (v := 3) hX dX4_entryRead_132 (by decide) ?_
      refine aw_iadd hX dX4_entryRead_133 ?_
      refine aw_ild1 hX dX4_entryRead_134 ?_
      refine aw_if_eq hX (tgt := 142) dX4_entryRead_135 (by decide) (fun c135 => ?_) (fun c135 => ?_)
      · have b135 := bI_0' c135
        refine aw_iconst (v := 0) hX dX4_entryRead_142 (by decide) ?_
        refine mm_st hX hM (by decide) (5 * n + 3) (nI_add (5 * n) 3) (by simp only [mLen]; omega) dX4_entryRead_143 (fun hp hM => ?_)
        refine aw_ald0 hX dX4_entryRead_144 ?_
        refine mm_get hX hM fg_X4_32 rfl dX4_entryRead_145 ?_
        refine aw_ild2 hX dX4_entryRead_148 ?_
        refine aw_iconst (v := 4) hX dX4_entryRead_149 (by decide) ?_
        refine aw_iadd hX dX4_entryRead_150 ?_
        refine aw_ald0 hX dX4_entryRead_151 ?_
        refine aw_bipush (v := 42) hX dX4_entryRead_152 (by decide) ?_
        refine mm_call hX hM lk_X4_174 rfl (c_X4_sign (fr := fr - 1) hM.1 (by omega) t k9 ht9 42) rfl rfl (Nat.le_of_ble_eq_true rfl) (by omega) (by decide) (Nat.le_refl _) (Nat.le_refl _) dX4_entryRead_154 (fun hp hM => ?_)
        refine aw_if_eq hX (tgt := 164) dX4_entryRead_157 (by decide) (fun c157 => ?_) (fun c157 => ?_)
        · have b157 := bI_0' c157
          refine aw_iconst (v := 0) hX dX4_entryRead_164 (by decide) ?_
          refine mm_st hX hM (by decide) (5 * n + 4) (nI_add (5 * n) 4) (by simp only [mLen]; omega) dX4_entryRead_165 (fun hp hM => ?_)
          refine aw_ald0 hX dX4_entryRead_166 ?_
          refine aw_dup hX dX4_entryRead_167 rfl ?_
          refine mm_get hX hM fg_X4_171 rfl dX4_entryRead_168 ?_
          refine aw_iconst (v := 1) hX dX4_entryRead_171 (by decide) ?_
          refine aw_iadd hX dX4_entryRead_172 ?_
          refine mm_put hX hM 5 fp_X4_171 (by decide) dX4_entryRead_173 (fun hp hM => ?_)
          refine aw_iconst (v := 1) hX dX4_entryRead_176 (by decide) ?_
          refine aw_zret hX (by first | rfl | exact bI_n _) (Nat.le_refl _) (Nat.le_refl _) dX4_entryRead_177 (hq _ _ ?_)
          have e9 := pEnt_4 hor hw1 hw2 (by show ¬ (pRt (S.1 4) t (pRt (S.1 4) t (pRt (S.1 4) t (pRt (S.1 4) t (((pWho (S.1 4) t (k + 1)).2.1 + 1), 0) 114 1) 119 2) 120 4) 109 8).2 = 0; rw [← hq9]; exact c113)
          have hr9 : pRts (S.1 4) t ((pWho (S.1 4) t (k + 1)).2.1 + 1) = (k9, acc) := hq9.symm
          rw [hr9] at e9
          refine ⟨_, pEntP_t hE e9 hn _ _ rfl ?_, hM⟩
          have b9 : pAt (S.1 4) t k9 42 42 = false := pAt_cg hp9 b157
          rw [b9]
          show sV _ 5 (S9.2 5 + 1) = _
          rw [hE.2.2.1, nI_1]
          show sV (sA (sV (sA (sA S9 7 (upd (S9.1 7) (5 * n + 2) acc)) 7 (upd (upd (S9.1 7) (5 * n + 2) acc) (5 * n + 3) _)) 3 (nI (pNx (S9.1 4) t k9 42))) 7 _) 5 _ = _
          rw [hp9, b135]
          rfl
        · have b157 := bI_n0 c157
          refine aw_iconst (v := 1) hX dX4_entryRead_160 (by decide) ?_
          refine aw_goto hX (tgt := 165) dX4_entryRead_161 (by decide) ?_
          refine mm_st hX hM (by decide) (5 * n + 4) (nI_add (5 * n) 4) (by simp only [mLen]; omega) dX4_entryRead_165 (fun hp hM => ?_)
          refine aw_ald0 hX dX4_entryRead_166 ?_
          refine aw_dup hX dX4_entryRead_167 rfl ?_
          refine mm_get hX hM fg_X4_171 rfl dX4_entryRead_168 ?_
          refine aw_iconst (v := 1) hX dX4_entryRead_171 (by decide) ?_
          refine aw_iadd hX dX4_entryRead_172 ?_
          refine mm_put hX hM 5 fp_X4_171 (by decide) dX4_entryRead_173 (fun hp hM => ?_)
          refine aw_iconst (v := 1) hX dX4_entryRead_176 (by decide) ?_
          refine aw_zret hX (by first | rfl | exact bI_n _) (Nat.le_refl _) (Nat.le_refl _) dX4_entryRead_177 (hq _ _ ?_)
          have e9 := pEnt_4 hor hw1 hw2 (by show ¬ (pRt (S.1 4) t (pRt (S.1 4) t (pRt (S.1 4) t (pRt (S.1 4) t (((pWho (S.1 4) t (k + 1)).2.1 + 1), 0) 114 1) 119 2) 120 4) 109 8).2 = 0; rw [← hq9]; exact c113)
          have hr9 : pRts (S.1 4) t ((pWho (S.1 4) t (k + 1)).2.1 + 1) = (k9, acc) := hq9.symm
          rw [hr9] at e9
          refine ⟨_, pEntP_t hE e9 hn _ _ rfl ?_, hM⟩
          have b9 : pAt (S.1 4) t k9 42 42 = true := pAt_cg hp9 b157
          rw [b9]
          show sV _ 5 (S9.2 5 + 1) = _
          rw [hE.2.2.1, nI_1]
          show sV (sA (sV (sA (sA S9 7 (upd (S9.1 7) (5 * n + 2) acc)) 7 (upd (upd (S9.1 7) (5 * n + 2) acc) (5 * n + 3) _)) 3 (nI (pNx (S9.1 4) t k9 42))) 7 _) 5 _ = _
          rw [hp9, b135]
          rfl
      · have b135 := bI_n0 c135
        refine aw_iconst (v := 1) hX dX4_entryRead_138 (by decide) ?_
        refine aw_goto hX (tgt := 143) dX4_entryRead_139 (by decide) ?_
        refine mm_st hX hM (by decide) (5 * n + 3) (nI_add (5 * n) 3) (by simp only [mLen]; omega) dX4_entryRead_143 (fun hp hM => ?_)
        refine aw_ald0 hX dX4_entryRead_144 ?_
        refine mm_get hX hM fg_X4_32 rfl dX4_entryRead_145 ?_
        refine aw_ild2 hX dX4_entryRead_148 ?_
        refine aw_iconst (v := 4) hX dX4_entryRead_149 (by decide) ?_
        refine aw_iadd hX dX4_entryRead_150 ?_
        refine aw_ald0 hX dX4_entryRead_151 ?_
        refine aw_bipush (v := 42) hX dX4_entryRead_152 (by decide) ?_
        refine mm_call hX hM lk_X4_174 rfl (c_X4_sign (fr := fr - 1) hM.1 (by omega) t k9 ht9 42) rfl rfl (Nat.le_of_ble_eq_true rfl) (by omega) (by decide) (Nat.le_refl _) (Nat.le_refl _) dX4_entryRead_154 (fun hp hM => ?_)
        refine aw_if_eq hX (tgt := 164) dX4_entryRead_157 (by decide) (fun c157 => ?_) (fun c157 => ?_)
        · have b157 := bI_0' c157
          refine aw_iconst (v := 0) hX dX4_entryRead_164 (by decide) ?_
          refine mm_st hX hM (by decide) (5 * n + 4) (nI_add (5 * n) 4) (by simp only [mLen]; omega) dX4_entryRead_165 (fun hp hM => ?_)
          refine aw_ald0 hX dX4_entryRead_166 ?_
          refine aw_dup hX dX4_entryRead_167 rfl ?_
          refine mm_get hX hM fg_X4_171 rfl dX4_entryRead_168 ?_
          refine aw_iconst (v := 1) hX dX4_entryRead_171 (by decide) ?_
          refine aw_iadd hX dX4_entryRead_172 ?_
          refine mm_put hX hM 5 fp_X4_171 (by decide) dX4_entryRead_173 (fun hp hM => ?_)
          refine aw_iconst (v := 1) hX dX4_entryRead_176 (by decide) ?_
          refine aw_zret hX (by first | rfl | exact bI_n _) (Nat.le_refl _) (Nat.le_refl _) dX4_entryRead_177 (hq _ _ ?_)
          have e9 := pEnt_4 hor hw1 hw2 (by show ¬ (pRt (S.1 4) t (pRt (S.1 4) t (pRt (S.1 4) t (pRt (S.1 4) t (((pWho (S.1 4) t (k + 1)).2.1 + 1), 0) 114 1) 119 2) 120 4) 109 8).2 = 0; rw [← hq9]; exact c113)
          have hr9 : pRts (S.1 4) t ((pWho (S.1 4) t (k + 1)).2.1 + 1) = (k9, acc) := hq9.symm
          rw [hr9] at e9
          refine ⟨_, pEntP_t hE e9 hn _ _ rfl ?_, hM⟩
          have b9 : pAt (S.1 4) t k9 42 42 = false := pAt_cg hp9 b157
          rw [b9]
          show sV _ 5 (S9.2 5 + 1) = _
          rw [hE.2.2.1, nI_1]
          show sV (sA (sV (sA (sA S9 7 (upd (S9.1 7) (5 * n + 2) acc)) 7 (upd (upd (S9.1 7) (5 * n + 2) acc) (5 * n + 3) _)) 3 (nI (pNx (S9.1 4) t k9 42))) 7 _) 5 _ = _
          rw [hp9, b135]
          rfl
        · have b157 := bI_n0 c157
          refine aw_iconst (v := 1) hX dX4_entryRead_160 (by decide) ?_
          refine aw_goto hX (tgt := 165) dX4_entryRead_161 (by decide) ?_
          refine mm_st hX hM (by decide) (5 * n + 4) (nI_add (5 * n) 4) (by simp only [mLen]; omega) dX4_entryRead_165 (fun hp hM => ?_)
          refine aw_ald0 hX dX4_entryRead_166 ?_
          refine aw_dup hX dX4_entryRead_167 rfl ?_
          refine mm_get hX hM fg_X4_171 rfl dX4_entryRead_168 ?_
          refine aw_iconst (v := 1) hX dX4_entryRead_171 (by decide) ?_
          refine aw_iadd hX dX4_entryRead_172 ?_
          refine mm_put hX hM 5 fp_X4_171 (by decide) dX4_entryRead_173 (fun hp hM => ?_)
          refine aw_iconst (v := 1) hX dX4_entryRead_176 (by decide) ?_
          refine aw_zret hX (by first | rfl | exact bI_n _) (Nat.le_refl _) (Nat.le_refl _) dX4_entryRead_177 (hq _ _ ?_)
          have e9 := pEnt_4 hor hw1 hw2 (by show ¬ (pRt (S.1 4) t (pRt (S.1 4) t (pRt (S.1 4) t (pRt (S.1 4) t (((pWho (S.1 4) t (k + 1)).2.1 + 1), 0) 114 1) 119 2) 120 4) 109 8).2 = 0; rw [← hq9]; exact c113)
          have hr9 : pRts (S.1 4) t ((pWho (S.1 4) t (k + 1)).2.1 + 1) = (k9, acc) := hq9.symm
          rw [hr9] at e9
          refine ⟨_, pEntP_t hE e9 hn _ _ rfl ?_, hM⟩
          have b9 : pAt (S.1 4) t k9 42 42 = true := pAt_cg hp9 b157
          rw [b9]
          show sV _ 5 (S9.2 5 + 1) = _
          rw [hE.2.2.1, nI_1]
          show sV (sA (sV (sA (sA S9 7 (upd (S9.1 7) (5 * n + 2) acc)) 7 (upd (upd (S9.1 7) (5 * n + 2) acc) (5 * n + 3) _)) 3 (nI (pNx (S9.1 4) t k9 42))) 7 _) 5 _ = _
          rw [hp9, b135]
          rfl
    · refine aw_iconst (v := 0) hX dX4_entryRead_116 (by decide) ?_
      refine aw_zret hX (by first | rfl | exact bI_n _) (Nat.le_refl _) (Nat.le_refl _) dX4_entryRead_117 (hq _ _ ?_)
      have e9 := pEnt_3 hor hw1 hw2 (by show (pRt (S.1 4) t (pRt (S.1 4) t (pRt (S.1 4) t (pRt (S.1 4) t (((pWho (S.1 4) t (k + 1)).2.1 + 1), 0) 114 1) 119 2) 120 4) 109 8).2 = 0; rw [← hq9]; exact c113)
      rw [show pRts (S.1 4) t ((pWho (S.1 4) t (k + 1)).2.1 + 1) = (k9, acc) from hq9.symm] at e9
      exact ⟨_, pEntP_f e9 hE.1 hE.2.1, hM⟩
  have K94 : ∀ (S9 : Ms) (k9 : Nat) (acc : Int32) (h9 : Hm) (hor : ¬ (pAt (S.1 4) t k 43 43 = false ∧ pAt (S.1 4) t k 45 45 = false)) (hw1 : (pWho (S.1 4) t (k + 1)).1 = true) (hw2 : pAt (S.1 4) t (pWho (S.1 4) t (k + 1)).2.1 61 61 = true), pEI S S9 n k9 (pWho (S.1 4) t (k + 1)).2.2.1 (pWho (S.1 4) t (k + 1)).2.2.2 → k9 ≤ t → (k9, acc) = (pRt (S.1 4) t (pRt (S.1 4) t (pRt (S.1 4) t (((pWho (S.1 4) t (k + 1)).2.1 + 1), 0) 114 1) 119 2) 120 4) → MR m ad S9 h h9 → gW z 94 [some (.ref m), some (.int (bI (pAt (S.1 4) t k 43 43))), some (.int (nI (5 * n))), some (.int acc)] [] h9 0 0 := by
    intro S9 k9 acc h9 hor hw1 hw2 hE hk9 hq9 hM
    have ht9 := hE.tk ht hk9
    have hp9 := hE.p
    refine aw_ild3 hX dX4_entryRead_94 ?_
    refine aw_ald0 hX dX4_entryRead_95 ?_
    refine aw_bipush (v := 109) hX dX4_entryRead_96 (by decide) ?_
    refine mm_call hX hM lk_X4_174 rfl (c_X4_sign (fr := fr - 1) hM.1 (by omega) t k9 ht9 109) rfl rfl (Nat.le_of_ble_eq_true rfl) (by omega) (by decide) (Nat.le_refl _) (Nat.le_refl _) dX4_entryRead_98 (fun hp hM => ?_)
    refine aw_if_eq hX (tgt := 109) dX4_entryRead_101 (by decide) (fun c101 => ?_) (fun c101 => ?_)
    · have b101 := bI_0' c101
      refine aw_iconst (v := 0) hX dX4_entryRead_109 (by decide) ?_
      refine aw_iadd hX dX4_entryRead_110 ?_
      refine aw_ist3 hX dX4_entryRead_111 (by decide) rfl ?_
      first
        | exact K112 _ (k9 + 1) _ _ hor hw1 hw2 ((hE.v _).cgk (by exact pNx_1 b101)) (pAt_lt b101) (by rw [← hq9]; exact (pRt_t (pAt_cg hp9 b101)).symm) hM
        | exact K112 _ k9 _ _ hor hw1 hw2 ((hE.v _).cgk (by exact pNx_0 b101)) hk9 (by rw [← hq9, Int32.add_zero]; exact (pRt_f (pAt_cg hp9 b101)).symm) hM
    · have b101 := bI_n0 c101
      refine aw_bipush (v := 8) hX dX4_entryRead_104 (by decide) ?_
      refine aw_goto hX (tgt := 110) dX4_entryRead_106 (by decide) ?_
      refine aw_iadd hX dX4_entryRead_110 ?_
      refine aw_ist3 hX dX4_entryRead_111 (by decide) rfl ?_
      first
        | exact K112 _ (k9 + 1) _ _ hor hw1 hw2 ((hE.v _).cgk (by exact pNx_1 b101)) (pAt_lt b101) (by rw [← hq9]; exact (pRt_t (pAt_cg hp9 b101)).symm) hM
        | exact K112 _ k9 _ _ hor hw1 hw2 ((hE.v _).cgk (by exact pNx_0 b101)) hk9 (by rw [← hq9, Int32.add_zero]; exact (pRt_f (pAt_cg hp9 b101)).symm) hM
  have K77 : ∀ (S9 : Ms) (k9 : Nat) (acc : Int32) (h9 : Hm) (hor : ¬ (pAt (S.1 4) t k 43 43 = false ∧ pAt (S.1 4) t k 45 45 = false)) (hw1 : (pWho (S.1 4) t (k + 1)).1 = true) (hw2 : pAt (S.1 4) t (pWho (S.1 4) t (k + 1)).2.1 61 61 = true), pEI S S9 n k9 (pWho (S.1 4) t (k + 1)).2.2.1 (pWho (S.1 4) t (k + 1)).2.2.2 → k9 ≤ t → (k9, acc) = (pRt (S.1 4) t (pRt (S.1 4) t (((pWho (S.1 4) t (k + 1)).2.1 + 1), 0) 114 1) 119 2) → MR m ad S9 h h9 → gW z 77 [some (.ref m), some (.int (bI (pAt (S.1 4) t k 43 43))), some (.int (nI (5 * n))), some (.int acc)] [] h9 0 0 := by
    intro S9 k9 acc h9 hor hw1 hw2 hE hk9 hq9 hM
    have ht9 := hE.tk ht hk9
    have hp9 := hE.p
    refine aw_ild3 hX dX4_entryRead_77 ?_
    refine aw_ald0 hX dX4_entryRead_78 ?_
    refine aw_bipush (v := 120) hX dX4_entryRead_79 (by decide) ?_
    refine mm_call hX hM lk_X4_174 rfl (c_X4_sign (fr := fr - 1) hM.1 (by omega) t k9 ht9 120) rfl rfl (Nat.le_of_ble_eq_true rfl) (by omega) (by decide) (Nat.le_refl _) (Nat.le_refl _) dX4_entryRead_81 (fun hp hM => ?_)
    refine aw_if_eq hX (tgt := 91) dX4_entryRead_84 (by decide) (fun c84 => ?_) (fun c84 => ?_)
    · have b84 := bI_0' c84
      refine aw_iconst (v := 0) hX dX4_entryRead_91 (by decide) ?_
      refine aw_iadd hX dX4_entryRead_92 ?_
      refine aw_ist3 hX dX4_entryRead_93 (by decide) rfl ?_
      first
        | exact K94 _ (k9 + 1) _ _ hor hw1 hw2 ((hE.v _).cgk (by exact pNx_1 b84)) (pAt_lt b84) (by rw [← hq9]; exact (pRt_t (pAt_cg hp9 b84)).symm) hM
        | exact K94 _ k9 _ _ hor hw1 hw2 ((hE.v _).cgk (by exact pNx_0 b84)) hk9 (by rw [← hq9, Int32.add_zero]; exact (pRt_f (pAt_cg hp9 b84)).symm) hM
    · have b84 := bI_n0 c84
      refine aw_iconst (v := 4) hX dX4_entryRead_87 (by decide) ?_
      refine aw_goto hX (tgt := 92) dX4_entryRead_88 (by decide) ?_
      refine aw_iadd hX dX4_entryRead_92 ?_
      refine aw_ist3 hX dX4_entryRead_93 (by decide) rfl ?_
      first
        | exact K94 _ (k9 + 1) _ _ hor hw1 hw2 ((hE.v _).cgk (by exact pNx_1 b84)) (pAt_lt b84) (by rw [← hq9]; exact (pRt_t (pAt_cg hp9 b84)).symm) hM
        | exact K94 _ k9 _ _ hor hw1 hw2 ((hE.v _).cgk (by exact pNx_0 b84)) hk9 (by rw [← hq9, Int32.add_zero]; exact (pRt_f (pAt_cg hp9 b84)).symm) hM
  have K60 : ∀ (S9 : Ms) (k9 : Nat) (acc : Int32) (h9 : Hm) (hor : ¬ (pAt (S.1 4) t k 43 43 = false ∧ pAt (S.1 4) t k 45 45 = false)) (hw1 : (pWho (S.1 4) t (k + 1)).1 = true) (hw2 : pAt (S.1 4) t (pWho (S.1 4) t (k + 1)).2.1 61 61 = true), pEI S S9 n k9 (pWho (S.1 4) t (k + 1)).2.2.1 (pWho (S.1 4) t (k + 1)).2.2.2 → k9 ≤ t → (k9, acc) = (pRt (S.1 4) t (((pWho (S.1 4) t (k + 1)).2.1 + 1), 0) 114 1) → MR m ad S9 h h9 → gW z 60 [some (.ref m), some (.int (bI (pAt (S.1 4) t k 43 43))), some (.int (nI (5 * n))), some (.int acc)] [] h9 0 0 := by
    intro S9 k9 acc h9 hor hw1 hw2 hE hk9 hq9 hM
    have ht9 := hE.tk ht hk9
    have hp9 := hE.p
    refine aw_ild3 hX dX4_entryRead_60 ?_
    refine aw_ald0 hX dX4_entryRead_61 ?_
    refine aw_bipush (v := 119) hX dX4_entryRead_62 (by decide) ?_
    refine mm_call hX hM lk_X4_174 rfl (c_X4_sign (fr := fr - 1) hM.1 (by omega) t k9 ht9 119) rfl rfl (Nat.le_of_ble_eq_true rfl) (by omega) (by decide) (Nat.le_refl _) (Nat.le_refl _) dX4_entryRead_64 (fun hp hM => ?_)
    refine aw_if_eq hX (tgt := 74) dX4_entryRead_67 (by decide) (fun c67 => ?_) (fun c67 => ?_)
    · have b67 := bI_0' c67
      refine aw_iconst (v := 0) hX dX4_entryRead_74 (by decide) ?_
      refine aw_iadd hX dX4_entryRead_75 ?_
      refine aw_ist3 hX dX4_entryRead_76 (by decide) rfl ?_
      first
        | exact K77 _ (k9 + 1) _ _ hor hw1 hw2 ((hE.v _).cgk (by exact pNx_1 b67)) (pAt_lt b67) (by rw [← hq9]; exact (pRt_t (pAt_cg hp9 b67)).symm) hM
        | exact K77 _ k9 _ _ hor hw1 hw2 ((hE.v _).cgk (by exact pNx_0 b67)) hk9 (by rw [← hq9, Int32.add_zero]; exact (pRt_f (pAt_cg hp9 b67)).symm) hM
    · have b67 := bI_n0 c67
      refine aw_iconst (v := 2) hX dX4_entryRead_70 (by decide) ?_
      refine aw_goto hX (tgt := 75) dX4_entryRead_71 (by decide) ?_
      refine aw_iadd hX dX4_entryRead_75 ?_
      refine aw_ist3 hX dX4_entryRead_76 (by decide) rfl ?_
      first
        | exact K77 _ (k9 + 1) _ _ hor hw1 hw2 ((hE.v _).cgk (by exact pNx_1 b67)) (pAt_lt b67) (by rw [← hq9]; exact (pRt_t (pAt_cg hp9 b67)).symm) hM
        | exact K77 _ k9 _ _ hor hw1 hw2 ((hE.v _).cgk (by exact pNx_0 b67)) hk9 (by rw [← hq9, Int32.add_zero]; exact (pRt_f (pAt_cg hp9 b67)).symm) hM
  have K20 : ∀ (S9 : Ms) (h9 : Hm) (v2 v3 : Option Value) (hor : ¬ (pAt (S.1 4) t k 43 43 = false ∧ pAt (S.1 4) t k 45 45 = false)), pSm S S9 → S9.2 3 = nI (k + 1) → S9.2 5 = nI n → (∀ i, i < 5 * n → S9.1 7 i = S.1 7 i) → k + 1 ≤ t → MR m ad S9 h h9 → gW z 20 [some (.ref m), some (.int (bI (pAt (S.1 4) t k 43 43))), v2, v3] [] h9 0 0 := by
    intro S9 h9 v2 v3 hor hs9 h39 h59 h79 hk9 hM
    have ht9 : Tk S9 (k + 1) t := ht.nx hs9.2.2.2.1 hk9 h39
    have hp9 : S9.1 4 = S.1 4 := hs9.1 4 (by decide)
    refine aw_ald0 hX dX4_entryRead_20 ?_
    refine mm_callx hX hM lk_X4_180 rfl (c_X4_whomRead (fr := fr - 1) hM.1 (by omega) t (k + 1) n ht9 h59 hn) rfl rfl (Nat.le_of_ble_eq_true rfl) (by omega) (by decide) (Nat.le_refl _) (Nat.le_refl _) dX4_entryRead_21 (fun v9 S21 hp p9 hM => ?_)
    obtain ⟨rfl, w1, w2, w3, w4, w5⟩ := p9
    rw [hp9] at w2 w5 ⊢
    refine aw_if_eq hX (tgt := 36) dX4_entryRead_24 (by decide) (fun c24 => ?_) (fun c24 => ?_)
    · have b24 := bI_0' c24
      refine aw_iconst (v := 0) hX dX4_entryRead_36 (by decide) ?_
      refine aw_zret hX (by first | rfl | exact bI_n _) (Nat.le_refl _) (Nat.le_refl _) dX4_entryRead_37 (hq _ _ ?_)
      exact ⟨_, pEntP_f (pEnt_1 hor b24) (hs9.tr w1) w2, hM⟩
    · have b24 := bI_n0 c24
      have ht10 := ht9.nx (S2 := S21) w1.2.2.2.1 (k' := (pWho (S.1 4) t (k + 1)).2.1) (pWho_le hk9) w2
      have hp10 : S21.1 4 = S.1 4 := (w1.1 4 (by decide)).trans hp9
      have hE : pEI S S21 n (pWho (S.1 4) t (k + 1)).2.1 (pWho (S.1 4) t (k + 1)).2.2.1 (pWho (S.1 4) t (k + 1)).2.2.2 := ⟨hs9.tr w1, w2, w3, fun i hi => (w4 i hi).trans (h79 i hi), (w5 b24).1, (w5 b24).2⟩
      replace hp9 := hp10
      refine aw_ald0 hX dX4_entryRead_27 ?_
      refine aw_bipush (v := 61) hX dX4_entryRead_28 (by decide) ?_
      refine mm_call hX hM lk_X4_174 rfl (c_X4_sign (fr := fr - 1) hM.1 (by omega) t _ ht10 61) rfl rfl (Nat.le_of_ble_eq_true rfl) (by omega) (by decide) (Nat.le_refl _) (Nat.le_refl _) dX4_entryRead_30 (fun hp hM => ?_)
      refine aw_if_ne hX (tgt := 38) dX4_entryRead_33 (by decide) (fun c33 => ?_) (fun c33 => ?_)
      · have b33 := bI_n0 c33
        have hw1 := b24
        have hw2 : pAt (S.1 4) t (pWho (S.1 4) t (k + 1)).2.1 61 61 = true := pAt_cg hp9 b33
        have hk1 : pNx (S21.1 4) t (pWho (S.1 4) t (k + 1)).2.1 61 = (pWho (S.1 4) t (k + 1)).2.1 + 1 := pNx_1 (by rw [hp9]; exact hw2)
        have ht11 := ht10.nx (S2 := sV S21 3 (nI (pNx (S21.1 4) t (pWho (S.1 4) t (k + 1)).2.1 61))) rfl (pAt_lt hw2) (congrArg nI hk1)
        refine aw_iconst (v := 5) hX dX4_entryRead_38 (by decide) ?_
        refine aw_ald0 hX dX4_entryRead_39 ?_
        refine mm_get hX hM fg_X4_171 rfl dX4_entryRead_40 ?_
        refine aw_imul hX dX4_entryRead_43 ?_
        rw [show (5 : Int32) * (sV S21 3 _).2 5 = nI (5 * n) from by show (5 : Int32) * S21.2 5 = _; rw [w3, show (5 : Int32) = nI 5 from rfl, pk_mul]]
        refine aw_ist2 hX dX4_entryRead_44 (by decide) rfl ?_
        refine aw_ald0 hX dX4_entryRead_45 ?_
        refine aw_bipush (v := 114) hX dX4_entryRead_46 (by decide) ?_
        refine mm_call hX hM lk_X4_174 rfl (c_X4_sign (fr := fr - 1) hM.1 (by omega) t _ ht11 114) rfl rfl (Nat.le_of_ble_eq_true rfl) (by omega) (by decide) (Nat.le_refl _) (Nat.le_refl _) dX4_entryRead_48 (fun hp hM => ?_)
        refine aw_if_eq hX (tgt := 58) dX4_entryRead_51 (by decide) (fun c51 => ?_) (fun c51 => ?_)
        · have b51 := bI_0' c51
          refine aw_iconst (v := 0) hX dX4_entryRead_58 (by decide) ?_
          refine aw_ist3 hX dX4_entryRead_59 (by decide) rfl ?_
          first
            | exact K60 _ (((pWho (S.1 4) t (k + 1)).2.1 + 1) + 1) 1 _ hor hw1 hw2 (((hE.v _).v _).cgk (by exact pNx_1 b51)) (pAt_lt b51) (by rw [pRt_t (pAt_cg hp9 b51)]; rfl) hM
            | exact K60 _ ((pWho (S.1 4) t (k + 1)).2.1 + 1) _ _ hor hw1 hw2 (((hE.v _).v _).cgk (by exact pNx_0 b51)) (pAt_lt hw2) (pRt_f (pAt_cg hp9 b51)).symm hM
        · have b51 := bI_n0 c51
          refine aw_iconst (v := 1) hX dX4_entryRead_54 (by decide) ?_
          refine aw_goto hX (tgt := 59) dX4_entryRead_55 (by decide) ?_
          refine aw_ist3 hX dX4_entryRead_59 (by decide) rfl ?_
          first
            | exact K60 _ (((pWho (S.1 4) t (k + 1)).2.1 + 1) + 1) 1 _ hor hw1 hw2 (((hE.v _).v _).cgk (by exact pNx_1 b51)) (pAt_lt b51) (by rw [pRt_t (pAt_cg hp9 b51)]; rfl) hM
            | exact K60 _ ((pWho (S.1 4) t (k + 1)).2.1 + 1) _ _ hor hw1 hw2 (((hE.v _).v _).cgk (by exact pNx_0 b51)) (pAt_lt hw2) (pRt_f (pAt_cg hp9 b51)).symm hM
      · have b33 := bI_0' c33
        refine aw_iconst (v := 0) hX dX4_entryRead_36 (by decide) ?_
        refine aw_zret hX (by first | rfl | exact bI_n _) (Nat.le_refl _) (Nat.le_refl _) dX4_entryRead_37 (hq _ _ ?_)
        have b9 : pAt (S.1 4) t (pWho (S.1 4) t (k + 1)).2.1 61 61 = false := pAt_cg hp9 b33
        exact ⟨_, pEntP_f (pEnt_2 hor b24 b9) (hE.v _).1 (by rw [hp9, pNx_0 b9]; rfl), hM⟩
  refine aw_ald0 hX dX4_entryRead_0 ?_
  refine aw_bipush (v := 43) hX dX4_entryRead_1 (by decide) ?_
  refine mm_call hX hM lk_X4_174 rfl (c_X4_sign (fr := fr - 1) hM.1 (by omega) t k ht 43) rfl rfl (Nat.le_of_ble_eq_true rfl) (by omega) (by decide) (Nat.le_refl _) (Nat.le_refl _) dX4_entryRead_3 (fun hp hM => ?_)
  refine aw_ist1 hX dX4_entryRead_6 (by decide) rfl ?_
  refine aw_ild1 hX dX4_entryRead_7 ?_
  refine aw_if_ne hX (tgt := 20) dX4_entryRead_8 (by decide) (fun c8 => ?_) (fun c8 => ?_)
  · have b8 := bI_n0 c8
    first
      | exact K20 _ _ _ _ (fun q => by have q2 := q.2; rw [show pAt (S.1 4) t k 45 45 = true from b17] at q2; cases q2) (by repeat first | exact pSm.rf _ | refine pSm.V (by decide) ?_ | refine pSm.A ?_) (by exact congrArg nI (pNx_1 b17)) (by exact hpn) (by intros; rfl) (pAt_lt b17) hM
      | exact K20 _ _ _ _ (fun q => by have q2 := q.1; rw [b8] at q2; cases q2) (by repeat first | exact pSm.rf _ | refine pSm.V (by decide) ?_ | refine pSm.A ?_) (by exact congrArg nI (pNx_1 b8)) (by exact hpn) (by intros; rfl) (pAt_lt b8) hM
  · have b8 := bI_0' c8
    have ht1 := ht.nx (S2 := sV S 3 (nI (pNx (S.1 4) t k 43))) rfl ht.2.2.1 (congrArg nI (pNx_0 b8))
    refine aw_ald0 hX dX4_entryRead_11 ?_
    refine aw_bipush (v := 45) hX dX4_entryRead_12 (by decide) ?_
    refine mm_call hX hM lk_X4_174 rfl (c_X4_sign (fr := fr - 1) hM.1 (by omega) t k ht1 45) rfl rfl (Nat.le_of_ble_eq_true rfl) (by omega) (by decide) (Nat.le_refl _) (Nat.le_refl _) dX4_entryRead_14 (fun hp hM => ?_)
    refine aw_if_eq hX (tgt := 36) dX4_entryRead_17 (by decide) (fun c17 => ?_) (fun c17 => ?_)
    · have b17 := bI_0' c17
      refine aw_iconst (v := 0) hX dX4_entryRead_36 (by decide) ?_
      refine aw_zret hX (by first | rfl | exact bI_n _) (Nat.le_refl _) (Nat.le_refl _) dX4_entryRead_37 (hq _ _ ?_)
      exact ⟨_, pEntP_f (pEnt_0 b8 b17) (by repeat first | exact pSm.rf _ | refine pSm.V (by decide) ?_ | refine pSm.A ?_) (by exact congrArg nI (pNx_0 b17)), hM⟩
    · have b17 := bI_n0 c17
      first
        | exact K20 _ _ _ _ (fun q => by have q2 := q.2; rw [show pAt (S.1 4) t k 45 45 = true from b17] at q2; cases q2) (by repeat first | exact pSm.rf _ | refine pSm.V (by decide) ?_ | refine pSm.A ?_) (by exact congrArg nI (pNx_1 b17)) (by exact hpn) (by intros; rfl) (pAt_lt b17) hM
        | exact K20 _ _ _ _ (fun q => by have q2 := q.1; rw [b8] at q2; cases q2) (by repeat first | exact pSm.rf _ | refine pSm.V (by decide) ?_ | refine pSm.A ?_) (by exact congrArg nI (pNx_1 b8)) (by exact hpn) (by intros; rfl) (pAt_lt b8) hM
