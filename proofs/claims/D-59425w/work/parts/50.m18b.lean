/-! THE REFERENCE, printed by m18.py: the making -/
set_option maxHeartbeats 4000000 in
set_option maxRecDepth 100000 in
theorem c_X4_init {D : Gd} {fr : Nat} {m : Nat} {h : Hm} (hm : h m = some (.inl (3, [.null, .null, .null, .null, .int 0, .int 0, .null, .int 0, .null, .null, .int 0, .int 0, .int 0, .int 0, .null]))) (hf : 4 ≤ fr) : AM D fr 8 6482 yX4_init (ws_ yX4_init cX4_init 1 none) [.ref m] h (mInitQ m h) noX := by
  refine AM.of (lv := [some (.ref m)]) (by decide +kernel) (Nat.le_of_ble_eq_true rfl) rfl (fun z hX hq _ => ?_)
  refine aw_ald0 hX dX4_init_0 ?_
  refine aw_objInit hX lo_X4_1 q127 q128 (by omega) (by decide) dX4_init_1 ?_
  refine aw_ald0 hX dX4_init_4 ?_
  refine aw_sipush (v := 765) hX dX4_init_5 (by decide) ?_
  refine aw_newa hX (tg := 0) (ty := .int) (atype := .int) (a0 := .inl (fun _ => 0)) rfl rfl q257 (fun C hC => by cases hC) 765 (fun _ => rfl) rfl (by decide) (by decide) (by omega) (by omega) dX4_init_8 (fun a0 f0 => ?_)
  have g0 : m ≠ a0 := fun e => by rw [← e, hm] at f0; cases f0
  refine aw_putF hX fp_X4_7 rfl ((gset_n g0).trans hm) rfl rfl dX4_init_10 ?_
  refine aw_ald0 hX dX4_init_13 ?_
  refine aw_sipush (v := 3825) hX dX4_init_14 (by decide) ?_
  refine aw_newa hX (tg := 0) (ty := .int) (atype := .int) (a0 := .inl (fun _ => 0)) rfl rfl q257 (fun C hC => by cases hC) 3825 (fun _ => rfl) rfl (by decide) (by decide) (by omega) (by omega) dX4_init_17 (fun a1 f1 => ?_)
  have g1 : m ≠ a1 := fun e => by rw [← e, gset_s] at f1; cases f1
  refine aw_putF hX fp_X4_13 rfl ((gset_n g1).trans gset_s) rfl rfl dX4_init_19 ?_
  refine aw_ald0 hX dX4_init_22 ?_
  refine aw_sipush (v := 1530) hX dX4_init_23 (by decide) ?_
  refine aw_newa hX (tg := 0) (ty := .int) (atype := .int) (a0 := .inl (fun _ => 0)) rfl rfl q257 (fun C hC => by cases hC) 1530 (fun _ => rfl) rfl (by decide) (by decide) (by omega) (by omega) dX4_init_26 (fun a2 f2 => ?_)
  have g2 : m ≠ a2 := fun e => by rw [← e, gset_s] at f2; cases f2
  refine aw_putF hX fp_X4_16 rfl ((gset_n g2).trans gset_s) rfl rfl dX4_init_28 ?_
  refine aw_ald0 hX dX4_init_31 ?_
  refine aw_iconst (v := 2) hX dX4_init_32 (by decide) ?_
  refine aw_newa hX (tg := 1) (ty := .boolean) (atype := .boolean) (a0 := .inl (fun _ => 0)) rfl rfl q1248 (fun C hC => by cases hC) 2 (fun _ => rfl) rfl (by decide) (by decide) (by omega) (by omega) dX4_init_33 (fun a3 f3 => ?_)
  have g3 : m ≠ a3 := fun e => by rw [← e, gset_s] at f3; cases f3
  refine aw_putF hX fp_X4_19 rfl ((gset_n g3).trans gset_s) rfl rfl dX4_init_35 ?_
  refine aw_ald0 hX dX4_init_38 ?_
  refine aw_bipush (v := 80) hX dX4_init_39 (by decide) ?_
  refine aw_newa hX (tg := 0) (ty := .int) (atype := .int) (a0 := .inl (fun _ => 0)) rfl rfl q257 (fun C hC => by cases hC) 80 (fun _ => rfl) rfl (by decide) (by decide) (by omega) (by omega) dX4_init_41 (fun a4 f4 => ?_)
  have g4 : m ≠ a4 := fun e => by rw [← e, gset_s] at f4; cases f4
  refine aw_putF hX fp_X4_23 rfl ((gset_n g4).trans gset_s) rfl rfl dX4_init_43 ?_
  refine aw_ald0 hX dX4_init_46 ?_
  refine aw_sipush (v := 240) hX dX4_init_47 (by decide) ?_
  refine aw_newa hX (tg := 0) (ty := .int) (atype := .int) (a0 := .inl (fun _ => 0)) rfl rfl q257 (fun C hC => by cases hC) 240 (fun _ => rfl) rfl (by decide) (by decide) (by omega) (by omega) dX4_init_50 (fun a5 f5 => ?_)
  have g5 : m ≠ a5 := fun e => by rw [← e, gset_s] at f5; cases f5
  refine aw_putF hX fp_X4_26 rfl ((gset_n g5).trans gset_s) rfl rfl dX4_init_52 ?_
  refine aw_ald0 hX dX4_init_55 ?_
  refine aw_iconst (v := 5) hX dX4_init_56 (by decide) ?_
  refine aw_newa hX (tg := 0) (ty := .int) (atype := .int) (a0 := .inl (fun _ => 0)) rfl rfl q257 (fun C hC => by cases hC) 5 (fun _ => rfl) rfl (by decide) (by decide) (by omega) (by omega) dX4_init_57 (fun a6 f6 => ?_)
  have g6 : m ≠ a6 := fun e => by rw [← e, gset_s] at f6; cases f6
  refine aw_putF hX fp_X4_29 rfl ((gset_n g6).trans gset_s) rfl rfl dX4_init_59 ?_
  refine aw_ald0 hX dX4_init_62 ?_
  refine aw_bipush (v := 35) hX dX4_init_63 (by decide) ?_
  refine aw_newa hX (tg := 0) (ty := .int) (atype := .int) (a0 := .inl (fun _ => 0)) rfl rfl q257 (fun C hC => by cases hC) 35 (fun _ => rfl) rfl (by decide) (by decide) (by omega) (by omega) dX4_init_65 (fun a7 f7 => ?_)
  have g7 : m ≠ a7 := fun e => by rw [← e, gset_s] at f7; cases f7
  refine aw_putF hX fp_X4_32 rfl ((gset_n g7).trans gset_s) rfl rfl dX4_init_67 ?_
  obtain ⟨f1, -⟩ := gset_nn f1
  obtain ⟨f1, n1_0⟩ := gset_nn f1
  obtain ⟨f2, -⟩ := gset_nn f2
  obtain ⟨f2, n2_1⟩ := gset_nn f2
  obtain ⟨f2, -⟩ := gset_nn f2
  obtain ⟨f2, n2_0⟩ := gset_nn f2
  obtain ⟨f3, -⟩ := gset_nn f3
  obtain ⟨f3, n3_2⟩ := gset_nn f3
  obtain ⟨f3, -⟩ := gset_nn f3
  obtain ⟨f3, n3_1⟩ := gset_nn f3
  obtain ⟨f3, -⟩ := gset_nn f3
  obtain ⟨f3, n3_0⟩ := gset_nn f3
  obtain ⟨f4, -⟩ := gset_nn f4
  obtain ⟨f4, n4_3⟩ := gset_nn f4
  obtain ⟨f4, -⟩ := gset_nn f4
  obtain ⟨f4, n4_2⟩ := gset_nn f4
  obtain ⟨f4, -⟩ := gset_nn f4
  obtain ⟨f4, n4_1⟩ := gset_nn f4
  obtain ⟨f4, -⟩ := gset_nn f4
  obtain ⟨f4, n4_0⟩ := gset_nn f4
  obtain ⟨f5, -⟩ := gset_nn f5
  obtain ⟨f5, n5_4⟩ := gset_nn f5
  obtain ⟨f5, -⟩ := gset_nn f5
  obtain ⟨f5, n5_3⟩ := gset_nn f5
  obtain ⟨f5, -⟩ := gset_nn f5
  obtain ⟨f5, n5_2⟩ := gset_nn f5
  obtain ⟨f5, -⟩ := gset_nn f5
  obtain ⟨f5, n5_1⟩ := gset_nn f5
  obtain ⟨f5, -⟩ := gset_nn f5
  obtain ⟨f5, n5_0⟩ := gset_nn f5
  obtain ⟨f6, -⟩ := gset_nn f6
  obtain ⟨f6, n6_5⟩ := gset_nn f6
  obtain ⟨f6, -⟩ := gset_nn f6
  obtain ⟨f6, n6_4⟩ := gset_nn f6
  obtain ⟨f6, -⟩ := gset_nn f6
  obtain ⟨f6, n6_3⟩ := gset_nn f6
  obtain ⟨f6, -⟩ := gset_nn f6
  obtain ⟨f6, n6_2⟩ := gset_nn f6
  obtain ⟨f6, -⟩ := gset_nn f6
  obtain ⟨f6, n6_1⟩ := gset_nn f6
  obtain ⟨f6, -⟩ := gset_nn f6
  obtain ⟨f6, n6_0⟩ := gset_nn f6
  obtain ⟨f7, -⟩ := gset_nn f7
  obtain ⟨f7, n7_6⟩ := gset_nn f7
  obtain ⟨f7, -⟩ := gset_nn f7
  obtain ⟨f7, n7_5⟩ := gset_nn f7
  obtain ⟨f7, -⟩ := gset_nn f7
  obtain ⟨f7, n7_4⟩ := gset_nn f7
  obtain ⟨f7, -⟩ := gset_nn f7
  obtain ⟨f7, n7_3⟩ := gset_nn f7
  obtain ⟨f7, -⟩ := gset_nn f7
  obtain ⟨f7, n7_2⟩ := gset_nn f7
  obtain ⟨f7, -⟩ := gset_nn f7
  obtain ⟨f7, n7_1⟩ := gset_nn f7
  obtain ⟨f7, -⟩ := gset_nn f7
  obtain ⟨f7, n7_0⟩ := gset_nn f7
  refine gW.hv (fun H => MW m (mAd a0 a1 a2 a3 a4 a5 a6 a7) mS0 H ∧ ∀ a, a ≠ m → h a ≠ none → H a = h a) ⟨⟨gset_s, fun k hk => ?_, fun i hi j hj e => ?_, fun k hk => ?_⟩, fun a ha hn => ?_⟩ (fun H hH => ?_)
  rotate_left
  · rcases (show i = 0 ∨ i = 1 ∨ i = 2 ∨ i = 3 ∨ i = 4 ∨ i = 5 ∨ i = 6 ∨ i = 7 by omega) with q | q | q | q | q | q | q | q <;> rcases (show j = 0 ∨ j = 1 ∨ j = 2 ∨ j = 3 ∨ j = 4 ∨ j = 5 ∨ j = 6 ∨ j = 7 by omega) with q2 | q2 | q2 | q2 | q2 | q2 | q2 | q2 <;> subst q <;> subst q2 <;> first | rfl | exact absurd e (by assumption) | exact absurd e.symm (by assumption)
  · rcases (show k = 0 ∨ k = 1 ∨ k = 2 ∨ k = 3 ∨ k = 4 ∨ k = 5 ∨ k = 6 ∨ k = 7 by omega) with q | q | q | q | q | q | q | q <;> subst q <;> first | exact Ne.symm g0 | exact Ne.symm g1 | exact Ne.symm g2 | exact Ne.symm g3 | exact Ne.symm g4 | exact Ne.symm g5 | exact Ne.symm g6 | exact Ne.symm g7
  · exact (gset_n ha).trans ((gset_n (fun e => hn (by rw [e]; exact f7))).trans ((gset_n ha).trans ((gset_n (fun e => hn (by rw [e]; exact f6))).trans ((gset_n ha).trans ((gset_n (fun e => hn (by rw [e]; exact f5))).trans ((gset_n ha).trans ((gset_n (fun e => hn (by rw [e]; exact f4))).trans ((gset_n ha).trans ((gset_n (fun e => hn (by rw [e]; exact f3))).trans ((gset_n ha).trans ((gset_n (fun e => hn (by rw [e]; exact f2))).trans ((gset_n ha).trans ((gset_n (fun e => hn (by rw [e]; exact f1))).trans ((gset_n ha).trans (gset_n (fun e => hn (by rw [e]; exact f0)))))))))))))))))
  rotate_left
  · rcases (show k = 0 ∨ k = 1 ∨ k = 2 ∨ k = 3 ∨ k = 4 ∨ k = 5 ∨ k = 6 ∨ k = 7 by omega) with q | q | q | q | q | q | q | q <;> subst q
    · exact (gset_n (Ne.symm g0)).trans ((gset_n (Ne.symm n7_0)).trans ((gset_n (Ne.symm g0)).trans ((gset_n (Ne.symm n6_0)).trans ((gset_n (Ne.symm g0)).trans ((gset_n (Ne.symm n5_0)).trans ((gset_n (Ne.symm g0)).trans ((gset_n (Ne.symm n4_0)).trans ((gset_n (Ne.symm g0)).trans ((gset_n (Ne.symm n3_0)).trans ((gset_n (Ne.symm g0)).trans ((gset_n (Ne.symm n2_0)).trans ((gset_n (Ne.symm g0)).trans ((gset_n (Ne.symm n1_0)).trans ((gset_n (Ne.symm g0)).trans (gset_s)))))))))))))))
    · exact (gset_n (Ne.symm g1)).trans ((gset_n (Ne.symm n7_1)).trans ((gset_n (Ne.symm g1)).trans ((gset_n (Ne.symm n6_1)).trans ((gset_n (Ne.symm g1)).trans ((gset_n (Ne.symm n5_1)).trans ((gset_n (Ne.symm g1)).trans ((gset_n (Ne.symm n4_1)).trans ((gset_n (Ne.symm g1)).trans ((gset_n (Ne.symm n3_1)).trans ((gset_n (Ne.symm g1)).trans ((gset_n (Ne.symm n2_1)).trans ((gset_n (Ne.symm g1)).trans (gset_s)))))))))))))
    · exact (gset_n (Ne.symm g2)).trans ((gset_n (Ne.symm n7_2)).trans ((gset_n (Ne.symm g2)).trans ((gset_n (Ne.symm n6_2)).trans ((gset_n (Ne.symm g2)).trans ((gset_n (Ne.symm n5_2)).trans ((gset_n (Ne.symm g2)).trans ((gset_n (Ne.symm n4_2)).trans ((gset_n (Ne.symm g2)).trans ((gset_n (Ne.symm n3_2)).trans ((gset_n (Ne.symm g2)).trans (gset_s)))))))))))
    · exact (gset_n (Ne.symm g3)).trans ((gset_n (Ne.symm n7_3)).trans ((gset_n (Ne.symm g3)).trans ((gset_n (Ne.symm n6_3)).trans ((gset_n (Ne.symm g3)).trans ((gset_n (Ne.symm n5_3)).trans ((gset_n (Ne.symm g3)).trans ((gset_n (Ne.symm n4_3)).trans ((gset_n (Ne.symm g3)).trans (gset_s)))))))))
    · exact (gset_n (Ne.symm g4)).trans ((gset_n (Ne.symm n7_4)).trans ((gset_n (Ne.symm g4)).trans ((gset_n (Ne.symm n6_4)).trans ((gset_n (Ne.symm g4)).trans ((gset_n (Ne.symm n5_4)).trans ((gset_n (Ne.symm g4)).trans (gset_s)))))))
    · exact (gset_n (Ne.symm g5)).trans ((gset_n (Ne.symm n7_5)).trans ((gset_n (Ne.symm g5)).trans ((gset_n (Ne.symm n6_5)).trans ((gset_n (Ne.symm g5)).trans (gset_s)))))
    · exact (gset_n (Ne.symm g6)).trans ((gset_n (Ne.symm n7_6)).trans ((gset_n (Ne.symm g6)).trans (gset_s)))
    · exact (gset_n (Ne.symm g7)).trans (gset_s)
  obtain ⟨hM, hfr⟩ := hH
  have hM := hM.rf
  refine aw_ald0 hX dX4_init_70 ?_
  refine mm_get hX hM fg_X4_7 rfl dX4_init_71 ?_
  refine aw_iconst (v := 0) hX dX4_init_74 (by decide) ?_
  refine aw_iconst (v := 1) hX dX4_init_75 (by decide) ?_
  refine mm_st hX hM (by decide) (0) (rfl) (by decide) dX4_init_76 (fun hp hM => ?_)
  refine aw_ald0 hX dX4_init_77 ?_
  refine aw_iconst (v := 0) hX dX4_init_78 (by decide) ?_
  refine aw_iconst (v := -1) hX dX4_init_79 (by decide) ?_
  refine aw_iconst (v := 0) hX dX4_init_80 (by decide) ?_
  refine mm_call hX hM lk_X4_35 rfl (c_X4_founds (fr := fr - 1) hM.1 (by omega) 0 (-1) 0 (by decide)) rfl rfl (Nat.le_of_ble_eq_true rfl) (by omega) (by decide) (Nat.le_refl _) (Nat.le_refl _) dX4_init_81 (fun hp hM => ?_)
  refine aw_vret hX (Nat.le_refl _) (Nat.le_refl _) dX4_init_84 (hq _ _ ?_)
  refine ⟨rfl, mAd a0 a1 a2 a3 a4 a5 a6 a7, ?_, fun a ha hn => ?_, fun k hk => ?_⟩
  · exact (hM.cg (by rw [sA_sA, sA_at]; rfl)).1
  · have q : ∀ k, k < 8 → a ≠ mAd a0 a1 a2 a3 a4 a5 a6 a7 k := by
      intro k hk e
      rcases (show k = 0 ∨ k = 1 ∨ k = 2 ∨ k = 3 ∨ k = 4 ∨ k = 5 ∨ k = 6 ∨ k = 7 by omega) with q | q | q | q | q | q | q | q <;> subst q <;> subst e <;> first | exact hn f0 | exact hn f1 | exact hn f2 | exact hn f3 | exact hn f4 | exact hn f5 | exact hn f6 | exact hn f7
    exact (hM.2 a ha q).trans (hfr a ha hn)
  · rcases (show k = 0 ∨ k = 1 ∨ k = 2 ∨ k = 3 ∨ k = 4 ∨ k = 5 ∨ k = 6 ∨ k = 7 by omega) with q | q | q | q | q | q | q | q <;> subst q <;> assumption
