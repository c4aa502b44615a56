/-! ===== BOTH SIDES JOINED, 9: trays, joined ===== -/
set_option maxRecDepth 100000
section J9
variable {d : Nat} {h : zHp} {Q : zRs → Prop}
theorem cM_tray {t s m : Int} (P : zMk h) (hy : (0 ≤ t ∧ t < 4) ∧ (0 ≤ s ∧ s ≤ 3) ∧ 0 ≤ m ∧ m ≤ 60 → Q (zRv (zi 1) (sI (sJA (sI (sI h 116 t s) 117 t m) 118 (fun z => if 60 * t ≤ z ∧ z < 60 * t + m then 0 else gJ h 118 z)) 113 2 0))) (hn : ¬ ((0 ≤ t ∧ t < 4) ∧ (0 ≤ s ∧ s ≤ 3) ∧ 0 ≤ m ∧ m ≤ 60) → Q (zRv (zi 0) (sI h 113 2 1))) : zCm mX6_tray d [zr (some 113), zi t, zi s, zi m] h Q := by
  have sJAs : ∀ (h9 : zHp) F j v, sJ (sJA h9 118 F) 118 j v = sJA h9 118 (zU F j v) := fun h9 F j v => by
    unfold sJ sJA gJ
    simp only [if_pos]
    congr 1
    congr 1
    congr 1
    congr 1
    funext c
    by_cases e : c = 118 <;> simp [e]
  have sJid : ∀ h9 : zHp, sJA h9 118 (gJ h9 118) = h9 := fun h9 => by
    obtain ⟨u1, u2, u3, u4, u5⟩ := h9
    unfold sJA gJ
    dsimp only
    congr 1
    congr 1
    congr 1
    congr 1
    funext c
    by_cases e : c = 118 <;> simp [e]
  by_cases c : (0 ≤ t ∧ t < 4) ∧ (0 ≤ s ∧ s ≤ 3) ∧ 0 ≤ m ∧ m ≤ 60
  · have hy := hy c
    obtain ⟨⟨t0, t1⟩, ⟨s0, s1⟩, m0, m1⟩ := c
    simp (disch := (first | (simp only [gK_sI, gK_sJ, gK_sR, gK_sIA, gK_sJA, gR_sI, gR_sJ, gR_sIA, Nat.reduceLeDiff, Nat.reduceEqDiff, Nat.reduceLT, Int.reduceLE, Int.reduceLT, Int.reduceEq, zWt_i, zWt_l, zWt_r, zWt_n, P, zMkk P, zMr5 P, zMk5 P, zMr6 P, zMk6 P, zMr7 P, zMk7 P] <;> omega) | omega | fail)) only [if_pos, if_neg, wI_id, zLc_lt, zLc_gt, zLc_eq, zLc_le, zLc_ge, Int.reduceEq, Int.reduceLE, Int.reduceLT, Int.reduceNeg, Int.reduceAdd, Int.reduceMul, Int.reduceSub, not_true_eq_false, not_false_eq_true, reduceIte, zPo_v, zPo_n, zPo_t, zKl_i, zKl_r, zKl_n, zKl_l, gK_sI, gK_sJ, gK_sR, gK_sIA, gK_sJA, gR_sI, gR_sJ, gJ_sI, gI_sJ, gI_sR, gJ_sR, gR_sIA, gJ_sIA, Nat.reduceLeDiff, Nat.reduceEqDiff, and_self, and_true, true_and, and_false, false_and, eX6_tray_0, eX6_tray_1, eX6_tray_4, eX6_tray_7, eX6_tray_8, eX6_tray_11, eX6_tray_12, eX6_tray_13, eX6_tray_16, eX6_tray_17, eX6_tray_20, eX6_tray_21, eX6_tray_23, eX6_tray_26, eX6_tray_27, eX6_tray_28, eX6_tray_31, eX6_tray_32, eX6_tray_33, eX6_tray_36, eX6_tray_37, eX6_tray_38, eX6_tray_39, eX6_tray_40, eX6_tray_43, eX6_tray_44, eX6_tray_45, eX6_tray_46, eX6_tray_47, eX6_tray_51, eX6_tray_52, eX6_tray_55, eX6_tray_56, eX6_tray_59, eX6_tray_61, eX6_tray_62, eX6_tray_63, eX6_tray_65, eX6_tray_66, eX6_tray_67, eX6_tray_68, eX6_tray_71, eX6_tray_74, eX6_tray_75, eX6_tray_76, eX6_tray_79, eX6_tray_in, P, zMkk P, zMr5 P, zMk5 P, zMr6 P, zMk6 P, zMr7 P, zMk7 P, cM_isTray]
    have P1 : zMk (sI (sI h 116 t s) 117 t m) := P
    have ej : gJ h 118 = gJ (sI (sI h 116 t s) 117 t m) 118 := rfl
    rw [ej] at hy
    generalize sI (sI h 116 t s) 117 t m = h1 at P1 hy ⊢
    refine zLoop m (fun i ls h' => 0 ≤ i ∧ ls = [some (zr (some 113)), some (zi t), some (zi s), some (zi m), some (zi i)] ∧ h' = sJA h1 118 (fun z => if 60 * t ≤ z ∧ z < 60 * t + i then 0 else gJ h1 118 z)) ?_ ?_ 0 _ _ m0 ⟨by omega, rfl, ?_⟩
    · rintro i _ _ hi ⟨hi0, rfl, rfl⟩ k
      rw [eX6_tray_49]
      simp (disch := (first | (simp only [gK_sI, gK_sJ, gK_sR, gK_sIA, gK_sJA, gR_sI, gR_sJ, gR_sIA, Nat.reduceLeDiff, Nat.reduceEqDiff, Nat.reduceLT, Int.reduceLE, Int.reduceLT, Int.reduceEq, zWt_i, zWt_l, zWt_r, zWt_n, P1, zMkk P1, zMr5 P1, zMk5 P1, zMr6 P1, zMk6 P1, zMr7 P1, zMk7 P1] <;> omega) | omega | fail)) only [if_pos, if_neg, wI_id, zLc_lt, zLc_gt, zLc_eq, zLc_le, zLc_ge, Int.reduceEq, Int.reduceLE, Int.reduceLT, Int.reduceNeg, Int.reduceAdd, Int.reduceMul, Int.reduceSub, not_true_eq_false, not_false_eq_true, reduceIte, zPo_v, zPo_n, zPo_t, zKl_i, zKl_r, zKl_n, zKl_l, gK_sI, gK_sJ, gK_sR, gK_sIA, gK_sJA, gR_sI, gR_sJ, gJ_sI, gI_sJ, gI_sR, gJ_sR, gR_sIA, gJ_sIA, Nat.reduceLeDiff, Nat.reduceEqDiff, and_self, and_true, true_and, and_false, false_and, eX6_tray_0, eX6_tray_1, eX6_tray_4, eX6_tray_7, eX6_tray_8, eX6_tray_11, eX6_tray_12, eX6_tray_13, eX6_tray_16, eX6_tray_17, eX6_tray_20, eX6_tray_21, eX6_tray_23, eX6_tray_26, eX6_tray_27, eX6_tray_28, eX6_tray_31, eX6_tray_32, eX6_tray_33, eX6_tray_36, eX6_tray_37, eX6_tray_38, eX6_tray_39, eX6_tray_40, eX6_tray_43, eX6_tray_44, eX6_tray_45, eX6_tray_46, eX6_tray_47, eX6_tray_51, eX6_tray_52, eX6_tray_55, eX6_tray_56, eX6_tray_59, eX6_tray_61, eX6_tray_62, eX6_tray_63, eX6_tray_65, eX6_tray_66, eX6_tray_67, eX6_tray_68, eX6_tray_71, eX6_tray_74, eX6_tray_75, eX6_tray_76, eX6_tray_79, eX6_tray_in, P1, zMkk P1, zMr5 P1, zMk5 P1, zMr6 P1, zMk6 P1, zMr7 P1, zMk7 P1, gR_sJA, sJAs]
      refine k _ _ ⟨by omega, rfl, ?_⟩
      congr 1
      funext z
      unfold zU
      by_cases c1 : z = 60 * t + i
      · rw [if_pos c1, if_pos (by omega)]
      · rw [if_neg c1]
        show (if 60 * t ≤ z ∧ z < 60 * t + i then 0 else gJ h1 118 z) = _
        by_cases c2 : 60 * t ≤ z ∧ z < 60 * t + i
        · rw [if_pos c2, if_pos (by omega)]
        · rw [if_neg c2, if_neg (by omega)]
    · rintro _ _ ⟨-, rfl, rfl⟩
      have P2 : ∀ F, zMk (sJA h1 118 F) := fun _ => P1
      rw [eX6_tray_49]
      simp (disch := (first | (simp only [gK_sI, gK_sJ, gK_sR, gK_sIA, gK_sJA, gR_sI, gR_sJ, gR_sIA, Nat.reduceLeDiff, Nat.reduceEqDiff, Nat.reduceLT, Int.reduceLE, Int.reduceLT, Int.reduceEq, zWt_i, zWt_l, zWt_r, zWt_n, P1, zMkk P1, zMr5 P1, zMk5 P1, zMr6 P1, zMk6 P1, zMr7 P1, zMk7 P1] <;> omega) | omega | fail)) only [if_pos, if_neg, wI_id, zLc_lt, zLc_gt, zLc_eq, zLc_le, zLc_ge, Int.reduceEq, Int.reduceLE, Int.reduceLT, Int.reduceNeg, Int.reduceAdd, Int.reduceMul, Int.reduceSub, not_true_eq_false, not_false_eq_true, reduceIte, zPo_v, zPo_n, zPo_t, zKl_i, zKl_r, zKl_n, zKl_l, gK_sI, gK_sJ, gK_sR, gK_sIA, gK_sJA, gR_sI, gR_sJ, gJ_sI, gI_sJ, gI_sR, gJ_sR, gR_sIA, gJ_sIA, Nat.reduceLeDiff, Nat.reduceEqDiff, and_self, and_true, true_and, and_false, false_and, eX6_tray_0, eX6_tray_1, eX6_tray_4, eX6_tray_7, eX6_tray_8, eX6_tray_11, eX6_tray_12, eX6_tray_13, eX6_tray_16, eX6_tray_17, eX6_tray_20, eX6_tray_21, eX6_tray_23, eX6_tray_26, eX6_tray_27, eX6_tray_28, eX6_tray_31, eX6_tray_32, eX6_tray_33, eX6_tray_36, eX6_tray_37, eX6_tray_38, eX6_tray_39, eX6_tray_40, eX6_tray_43, eX6_tray_44, eX6_tray_45, eX6_tray_46, eX6_tray_47, eX6_tray_51, eX6_tray_52, eX6_tray_55, eX6_tray_56, eX6_tray_59, eX6_tray_61, eX6_tray_62, eX6_tray_63, eX6_tray_65, eX6_tray_66, eX6_tray_67, eX6_tray_68, eX6_tray_71, eX6_tray_74, eX6_tray_75, eX6_tray_76, eX6_tray_79, eX6_tray_in, cM_is (P2 _)]
      exact hy
    · have e9 : (fun z => if 60 * t ≤ z ∧ z < 60 * t + 0 then 0 else gJ h1 118 z) = gJ h1 118 := by
        funext z
        rw [if_neg (by omega)]
      rw [e9, sJid]
  · have hn := hn c
    simp (disch := (first | (simp only [gK_sI, gK_sJ, gK_sR, gK_sIA, gK_sJA, gR_sI, gR_sJ, gR_sIA, Nat.reduceLeDiff, Nat.reduceEqDiff, Nat.reduceLT, Int.reduceLE, Int.reduceLT, Int.reduceEq, zWt_i, zWt_l, zWt_r, zWt_n, P, zMkk P, zMr5 P, zMk5 P, zMr6 P, zMk6 P, zMr7 P, zMk7 P] <;> omega) | omega | fail)) only [wI_id, zLc_lt, zLc_gt, zLc_eq, zLc_le, zLc_ge, Int.reduceEq, Int.reduceLE, Int.reduceLT, Int.reduceNeg, Int.reduceAdd, Int.reduceMul, Int.reduceSub, not_true_eq_false, not_false_eq_true, reduceIte, zPo_v, zPo_n, zPo_t, zKl_i, zKl_r, zKl_n, zKl_l, gK_sI, gK_sJ, gK_sR, gK_sIA, gK_sJA, gR_sI, gR_sJ, gJ_sI, gI_sJ, gI_sR, gJ_sR, gR_sIA, gJ_sIA, Nat.reduceLeDiff, Nat.reduceEqDiff, and_self, and_true, true_and, and_false, false_and, eX6_tray_0, eX6_tray_1, eX6_tray_4, eX6_tray_7, eX6_tray_8, eX6_tray_11, eX6_tray_12, eX6_tray_13, eX6_tray_16, eX6_tray_17, eX6_tray_20, eX6_tray_21, eX6_tray_23, eX6_tray_26, eX6_tray_27, eX6_tray_28, eX6_tray_31, eX6_tray_33, eX6_tray_36, eX6_tray_37, eX6_tray_38, eX6_tray_39, eX6_tray_40, eX6_tray_43, eX6_tray_44, eX6_tray_45, eX6_tray_46, eX6_tray_47, eX6_tray_51, eX6_tray_52, eX6_tray_55, eX6_tray_56, eX6_tray_59, eX6_tray_61, eX6_tray_62, eX6_tray_63, eX6_tray_65, eX6_tray_66, eX6_tray_67, eX6_tray_68, eX6_tray_71, eX6_tray_74, eX6_tray_75, eX6_tray_76, eX6_tray_79, eX6_tray_in, P, zMkk P, zMr5 P, zMk5 P, zMr6 P, zMk6 P, zMr7 P, zMk7 P, cM_isTray, cM_is P]
    (repeat' split) <;> first | exact hn | (exfalso; omega)
set_option maxHeartbeats 400000
theorem zR_stU {a nm : Int → Int} (R : zRl h a nm) : zRl (sI (gTick (sI h 65 7 1) 3 400) 113 2 1) a nm := by
  have e10 : sI (gTick h 3 400) 65 7 1 = gTick (sI h 65 7 1) 3 400 := rfl
  rw [← e10]
  exact zR_st0 (zR_tick R)
theorem zSc_stU : zSc h (sI (gTick (sI h 65 7 1) 3 400) 113 2 1) := by
  refine ⟨?_, rfl, rfl⟩
  rw [gI_sI_ne (by decide)]
  show gI (sI h 65 7 1) 0 = _
  rw [gI_sI_ne (by decide)]
theorem zBu_stU : zBu h (sI (gTick (sI h 65 7 1) 3 400) 113 2 1) := ⟨by show gC h + 3 ≤ _; omega, by show gS h + 400 ≤ _; omega, by show gN h ≤ _; omega⟩
theorem jO_tray {t s m : Int} : zOp zi d mX0_tray mX6_tray [zi t, zi s, zi m] := fun Q h a nm R k => by
  have K := zRxk R
  have e2 : ∀ x, zXk (sI h 65 7 x) := fun _ => K
  have k6 := zXk6 K
  have PM := zRmk R
  have g0 := (zRfr R).1
  have K3 : ∀ w, zXk (sI (sI h 65 7 0) 73 6 w) := fun _ => K
  by_cases c : (0 ≤ t ∧ t < 4) ∧ (0 ≤ s ∧ s ≤ 3) ∧ m ≤ 60
  · obtain ⟨⟨t0, t1⟩, ⟨s0, s1⟩, m1⟩ := id c
    obtain ⟨x1, x2⟩ := zX_t K t0 t1
    have hu : 65 ≤ 67 + t.toNat := by omega
    simp (disch := (first | (simp only [gK_sI, gK_sJ, gK_sR, gK_sIA, gK_sJA, gR_sI, gR_sJ, gR_sIA, Nat.reduceLeDiff, Nat.reduceEqDiff, Nat.reduceLT, Int.reduceLE, Int.reduceLT, Int.reduceEq, zWt_i, zWt_l, zWt_r, zWt_n, K, zXkk K, zXr0 K, zXk0 K, zXt0 K, zXu0 K, zXt1 K, zXu1 K, zXt2 K, zXu2 K, zXt3 K, zXu3 K, zXh0 K, e2, x2, hu] <;> omega) | omega | fail)) only [if_pos, if_neg, wI_id, zLc_lt, zLc_gt, zLc_eq, zLc_le, zLc_ge, Int.reduceEq, Int.reduceLE, Int.reduceLT, Int.reduceNeg, Int.reduceAdd, Int.reduceMul, Int.reduceSub, not_true_eq_false, not_false_eq_true, reduceIte, zPo_v, zPo_n, zPo_t, zKl_i, zKl_r, zKl_n, zKl_l, gK_sI, gK_sJ, gK_sR, gK_sIA, gK_sJA, gR_sI, gR_sJ, gJ_sI, gI_sJ, gI_sR, gJ_sR, gR_sIA, gJ_sIA, Nat.reduceLeDiff, Nat.reduceEqDiff, and_self, and_true, true_and, and_false, false_and, eX0_tray_0, eX0_tray_1, eX0_tray_2, eX0_tray_5, eX0_tray_6, eX0_tray_7, eX0_tray_10, eX0_tray_11, eX0_tray_12, eX0_tray_15, eX0_tray_16, eX0_tray_19, eX0_tray_20, eX0_tray_21, eX0_tray_24, eX0_tray_25, eX0_tray_27, eX0_tray_30, eX0_tray_31, eX0_tray_34, eX0_tray_35, eX0_tray_36, eX0_tray_39, eX0_tray_40, eX0_tray_43, eX0_tray_44, eX0_tray_45, eX0_tray_46, eX0_tray_47, eX0_tray_50, eX0_tray_53, eX0_tray_54, eX0_tray_55, eX0_tray_57, eX0_tray_58, eX0_tray_59, eX0_tray_62, eX0_tray_63, eX0_tray_64, eX0_tray_66, eX0_tray_67, eX0_tray_69, eX0_tray_72, tX0_tray_36_3, tX0_tray_36_30, tX0_tray_47_3, tX0_tray_47_30, eX0_tray_in, K, zXkk K, zXr0 K, zXk0 K, zXt0 K, zXu0 K, zXt1 K, zXu1 K, zXt2 K, zXu2 K, zXt3 K, zXu3 K, zXh0 K, kX0_want1, x1]
    refine kX0_row s0 s1 m1 (fun m0 => ?_) (fun mn => ?_)
    · have hN : 67 + t.toNat ≠ gN (sI h 65 7 0) := by
        show 67 + t.toNat ≠ gN h
        omega
      have k2 : gK (gNew (sI h 65 7 0) (zKd s, m.toNat) m.toNat) (67 + t.toNat) = (0, 1) := by
        rw [gK_new_ne hN]
        exact x2
      simp (disch := (first | (simp only [gK_sI, gK_sJ, gK_sR, gK_sIA, gK_sJA, gR_sI, gR_sJ, gR_sIA, Nat.reduceLeDiff, Nat.reduceEqDiff, Nat.reduceLT, Int.reduceLE, Int.reduceLT, Int.reduceEq, zWt_i, zWt_l, zWt_r, zWt_n, k2, hu] <;> omega) | omega | fail)) only [if_pos, if_neg, wI_id, zLc_lt, zLc_gt, zLc_eq, zLc_le, zLc_ge, Int.reduceEq, Int.reduceLE, Int.reduceLT, Int.reduceNeg, Int.reduceAdd, Int.reduceMul, Int.reduceSub, not_true_eq_false, not_false_eq_true, reduceIte, zPo_v, zPo_n, zPo_t, zKl_i, zKl_r, zKl_n, zKl_l, gK_sI, gK_sJ, gK_sR, gK_sIA, gK_sJA, gR_sI, gR_sJ, gJ_sI, gI_sJ, gI_sR, gJ_sR, gR_sIA, gJ_sIA, Nat.reduceLeDiff, Nat.reduceEqDiff, and_self, and_true, true_and, and_false, false_and, eX0_tray_0, eX0_tray_1, eX0_tray_2, eX0_tray_5, eX0_tray_6, eX0_tray_7, eX0_tray_10, eX0_tray_11, eX0_tray_12, eX0_tray_15, eX0_tray_16, eX0_tray_19, eX0_tray_20, eX0_tray_21, eX0_tray_24, eX0_tray_25, eX0_tray_27, eX0_tray_30, eX0_tray_31, eX0_tray_34, eX0_tray_35, eX0_tray_36, eX0_tray_39, eX0_tray_40, eX0_tray_43, eX0_tray_44, eX0_tray_45, eX0_tray_46, eX0_tray_47, eX0_tray_50, eX0_tray_53, eX0_tray_54, eX0_tray_55, eX0_tray_57, eX0_tray_58, eX0_tray_59, eX0_tray_62, eX0_tray_63, eX0_tray_64, eX0_tray_66, eX0_tray_67, eX0_tray_69, eX0_tray_72, tX0_tray_36_3, tX0_tray_36_30, tX0_tray_47_3, tX0_tray_47_30, eX0_tray_in, k2]
      have eN : gN (sI h 65 7 0) = gN h := rfl
      rw [eN]
      generalize hH : sR (gNew (sI h 65 7 0) (zKd s, m.toNat) m.toNat) (67 + t.toNat) 0 (some (gN h)) = h1
      have oK : ∀ c, c < gN h → gK h1 c = gK h c := fun c hc => by
        rw [← hH]
        show gK (gNew (sI h 65 7 0) (zKd s, m.toNat) m.toNat) c = _
        rw [gK_new_ne (show c ≠ gN (sI h 65 7 0) by show c ≠ gN h; omega)]
        rfl
      have nK : gK h1 (gN h) = (zKd s, m.toNat) := by
        rw [← hH]
        show gK (gNew (sI h 65 7 0) (zKd s, m.toNat) m.toNat) (gN h) = _
        exact gK_new_eq rfl
      have fK : ∀ c, gN h + 1 ≤ c → gK h1 c = (1000, 0) := fun c hc => by
        rw [← hH]
        show gK (gNew (sI h 65 7 0) (zKd s, m.toNat) m.toNat) c = _
        rw [gK_new_ne (show c ≠ gN (sI h 65 7 0) by show c ≠ gN h; omega)]
        exact (zRfr R).2 c (by omega)
      have oI : ∀ c, c < gN h → c ≠ 65 → gI h1 c = gI h c := fun c hc c65 => by
        rw [← hH]
        show gI (gNew (sI h 65 7 0) (zKd s, m.toNat) m.toNat) c = _
        rw [gI_new_ne (show c ≠ gN (sI h 65 7 0) by show c ≠ gN h; omega), gI_sI_ne c65]
      have nI : gI h1 (gN h) = fun _ => 0 := by
        rw [← hH]
        show gI (gNew (sI h 65 7 0) (zKd s, m.toNat) m.toNat) (gN h) = _
        exact gI_new_eq rfl
      have i65 : ∀ j, gI h1 65 j = if j = 7 then 0 else gI h 65 j := fun j => by
        rw [← hH]
        show gI (gNew (sI h 65 7 0) (zKd s, m.toNat) m.toNat) 65 j = _
        rw [gI_new_ne (show 65 ≠ gN (sI h 65 7 0) by show 65 ≠ gN h; omega), gI_sI_eq]
        rfl
      have oJ : ∀ c, c < gN h → gJ h1 c = gJ h c := fun c hc => by
        rw [← hH]
        show gJ (gNew (sI h 65 7 0) (zKd s, m.toNat) m.toNat) c = _
        rw [gJ_new_ne (show c ≠ gN (sI h 65 7 0) by show c ≠ gN h; omega)]
        rfl
      have nJ : gJ h1 (gN h) = fun _ => 0 := by
        rw [← hH]
        show gJ (gNew (sI h 65 7 0) (zKd s, m.toNat) m.toNat) (gN h) = _
        exact gJ_new_eq rfl
      have oR : ∀ c, c < gN h → c ≠ 67 + t.toNat → gR h1 c = gR h c := fun c hc ct => by
        rw [← hH, gR_sR_ne ct, gR_new_ne (show c ≠ gN (sI h 65 7 0) by show c ≠ gN h; omega)]
        rfl
      have nR : gR h1 (67 + t.toNat) 0 = some (gN h) := by
        rw [← hH, gR_sR_eq, zU_eq]
      have nN : gN h1 = gN h + 1 := by
        rw [← hH]
        rfl
      have nC : gC h1 = gC h + 1 ∧ gS h1 = gS h + m.toNat := by
        rw [← hH]
        exact ⟨rfl, rfl⟩
      have PM1 : zMk h1 := by
        have q := PM
        unfold zMk at q ⊢
        simp only [oK 113 (by omega), oK 114 (by omega), oK 115 (by omega), oK 116 (by omega), oK 117 (by omega), oK 118 (by omega), oK 119 (by omega), oK 120 (by omega), oK 121 (by omega), oK 122 (by omega), oK 123 (by omega), oK 124 (by omega), oK 125 (by omega), oK 126 (by omega), oK 127 (by omega), oK 128 (by omega), oR 113 (by omega) (by omega)]
        exact q
      refine k 1 h1 ⟨oI 0 (by omega) (by decide), oK 0 (by omega), oK 113 (by omega)⟩ (fun Q2 h2 => cM_tray PM1 (fun _ => ?_) (fun q => absurd ⟨c.1, c.2.1, m0, m1⟩ q))
      generalize hH2 : sI (sJA (sI (sI h1 116 t s) 117 t m) 118 (fun z => if 60 * t ≤ z ∧ z < 60 * t + m then 0 else gJ h1 118 z)) 113 2 0 = h3
      have k3 : gK h3 = gK h1 := by rw [← hH2]; rfl
      have r3 : gR h3 = gR h1 := by rw [← hH2]; rfl
      have f3 : h3.1 = h1.1 := by rw [← hH2]; rfl
      have i3 : ∀ c, c ≠ 113 → c ≠ 116 → c ≠ 117 → gI h3 c = gI h1 c := fun c c1 c2 c3 => by
        rw [← hH2, gI_sI_ne c1]
        show gI (sI (sI h1 116 t s) 117 t m) c = _
        rw [gI_sI_ne c3, gI_sI_ne c2]
      have i3113 : ∀ j, j ≠ 2 → gI h3 113 j = gI h 113 j := fun j hj => by
        rw [← hH2, gI_sI_eq, zU_ne hj]
        show gI (sI (sI h1 116 t s) 117 t m) 113 j = _
        rw [gI_sI_ne (by decide), gI_sI_ne (by decide), oI 113 (by omega) (by decide)]
      have i32 : gI h3 113 2 = 0 := by rw [← hH2, gI_sI_eq, zU_eq]
      have i3116 : gI h3 116 = zU (gI h 116) t s := by
        rw [← hH2, gI_sI_ne (by decide)]
        show gI (sI (sI h1 116 t s) 117 t m) 116 = _
        rw [gI_sI_ne (by decide), gI_sI_eq, oI 116 (by omega) (by decide)]
      have i3117 : gI h3 117 = zU (gI h 117) t m := by
        rw [← hH2, gI_sI_ne (by decide)]
        show gI (sI (sI h1 116 t s) 117 t m) 117 = _
        rw [gI_sI_eq, gI_sI_ne (by decide), oI 117 (by omega) (by decide)]
      have j3 : ∀ c, c ≠ 118 → gJ h3 c = gJ h1 c := fun c hc => by
        rw [← hH2]
        exact if_neg hc
      have j3118 : gJ h3 118 = fun z => if 60 * t ≤ z ∧ z < 60 * t + m then 0 else gJ h 118 z := by
        rw [← hH2, ← oJ 118 (by omega)]
        show (if (118 : Nat) = 118 then (fun z => if 60 * t ≤ z ∧ z < 60 * t + m then 0 else gJ h1 118 z) else gJ (sI (sI h1 116 t s) 117 t m) 118) = _
        exact if_pos rfl
      have nr := fun {c : Nat} (hc : c < 129) => zRow_n R hc
      refine h2 h3 a nm (zR_gen R (by unfold gN; rw [f3]; show gN h ≤ gN h1; omega) (fun c hc => by rw [k3]; exact oK c hc) (fun c hc => by rw [k3]; exact fK c (by unfold gN at hc; rw [f3] at hc; show gN h + 1 ≤ c; have : gN h1 ≤ c := hc; omega)) (fun c c1 c2 => by rw [r3]; exact oR c c2 (by omega)) (fun c c0 c1 c2 c3 c4 c5 c6 c7 c8 => by rw [i3 c c4 c5 c6]; exact oI c c0 c1) (fun c c0 c1 c2 c3 c4 => by rw [j3 c c3]; exact oJ c c0) ?_ ?_ ?_ ?_ ?_ ?_ ?_ ⟨?_, ?_⟩ ?_ (fun m9 u H r a0 a1 u0 u1 q1 q2 => ?_)) ⟨by rw [i3 0 (by decide) (by decide) (by decide)]; exact oI 0 (by omega) (by decide), by rw [k3]; exact oK 0 (by omega), by rw [k3]; exact oK 113 (by omega)⟩ ⟨by have e : gC h3 = gC h1 := (by unfold gC; rw [f3]); omega, by have e : gS h3 = gS h1 := (by unfold gS; rw [f3]); omega, by have e : gN h3 = gN h1 := (by unfold gN; rw [f3]); omega⟩
      · rw [i3 65 (by decide) (by decide) (by decide), i65, if_pos rfl, i32]
      · rw [j3 65 (by decide), j3 113 (by decide), oJ 65 (by omega), oJ 113 (by omega)]
        exact zRup R
      · rw [i3 65 (by decide) (by decide) (by decide), i65, if_neg (by decide), i3113 10 (by decide)]
        exact zRtd R
      · rw [i3113 10 (by decide), i3 71 (by decide) (by decide) (by decide), i3 119 (by decide) (by decide) (by decide), oI 71 (by omega) (by decide), oI 119 (by omega) (by decide)]
        exact zRtp R
      · rw [i3 65 (by decide) (by decide) (by decide), i65, i65, if_neg (by decide), if_neg (by decide), i3113 16 (by decide), i3113 17 (by decide)]
        exact zRfa R
      · rw [i3 112 (by decide) (by decide) (by decide), i3 128 (by decide) (by decide) (by decide), oI 112 (by omega) (by decide), oI 128 (by omega) (by decide)]
        exact zRla R
      · rw [i3 65 (by decide) (by decide) (by decide), i65, if_neg (by decide), i3113 40 (by decide)]
        exact zRli R
      · rw [i3 65 (by decide) (by decide) (by decide), i65, if_neg (by decide)]
      · exact i3113 41 (by decide)
      · have tr := zRtr R
        have dr : ∀ (u : Int) (r : Nat), 0 ≤ u → u < 4 → gR h (67 + u.toNat) 0 = some r → r < gN h := fun u r u0 u1 e => (zRow_f R ⟨u, u0, u1, e⟩).2.1
        have ot : ∀ u : Int, 0 ≤ u → u < 4 → u ≠ t → gR h3 (67 + u.toNat) = gR h (67 + u.toNat) := fun u u0 u1 ne => by rw [r3]; exact oR _ (by omega) (by omega)
        rw [i3116, i3117, j3118]
        refine ⟨fun u u0 u1 => ?_, fun u w u0 u1 w0 w1 ne r q1 q2 => ?_⟩
        · by_cases e : u = t
          · subst e
            refine Or.inr ⟨gN h, by rw [r3]; exact nR, ?_⟩
            rw [zU_eq, zU_eq]
            refine ⟨⟨m0, m1⟩, ⟨s0, s1⟩, g0, by unfold gN; rw [f3]; show gN h < gN h1; omega, by rw [k3]; exact nK, fun kk k0 k1 => ?_⟩
            show zTv h3 s (gN h) kk = if 60 * u ≤ 60 * u + kk ∧ 60 * u + kk < 60 * u + m then 0 else gJ h 118 (60 * u + kk)
            rw [if_pos (by omega)]
            unfold zTv
            rw [i3 (gN h) (by omega) (by omega) (by omega), nI, j3 (gN h) (by omega), nJ]
            split <;> rfl
          · rw [zU_ne e, zU_ne e, ot u u0 u1 e]
            rcases tr.1 u u0 u1 with q | ⟨r, r1, y1, y2, y3, y4, y5, y6⟩
            · exact Or.inl q
            · refine Or.inr ⟨r, r1, y1, y2, y3, by unfold gN; rw [f3]; show r < gN h1; omega, by rw [k3, oK r y4]; exact y5, fun kk k0 k1 => ?_⟩
              show zTv h3 (gI h 116 u) r kk = if 60 * t ≤ 60 * u + kk ∧ 60 * u + kk < 60 * t + m then 0 else gJ h 118 (60 * u + kk)
              rw [if_neg (by omega), ← y6 kk k0 k1]
              unfold zTv
              rw [i3 r (by omega) (by omega) (by omega), oI r y4 (by omega), j3 r (by omega), oJ r y4]
        · by_cases e : u = t
          · subst e
            rw [r3, nR] at q1
            obtain rfl := Option.some.inj q1
            rw [ot w w0 w1 (Ne.symm ne)] at q2
            have := dr w _ w0 w1 q2
            omega
          · rw [ot u u0 u1 e] at q1
            by_cases e' : w = t
            · subst e'
              rw [r3, nR] at q2
              obtain rfl := Option.some.inj q2
              have := dr u _ u0 u1 q1
              omega
            · rw [ot w w0 w1 e'] at q2
              exact tr.2 u w u0 u1 w0 w1 ne r q1 q2
      · by_cases e : u = t
        · subst e
          rw [r3, nR] at q2
          obtain rfl := Option.some.inj q2
          rcases (zRms R).2.1 m9 a0 a1 with ⟨-, q⟩ | ⟨H9, q3, q4⟩
          · rw [q] at q1
            cases q1
          · rw [q3] at q1
            obtain rfl := Option.some.inj q1
            exact Or.inr q4.2.1
        · rw [r3, oR _ (by omega) (by omega)] at q2
          exact (zRms R).2.2.2.1 m9 u H r a0 a1 u0 u1 q1 q2
    · have KT : zXk (gTick (sI h 65 7 0) 3 400) := K
      simp (disch := (first | (simp only [gK_sI, gK_sJ, gK_sR, gK_sIA, gK_sJA, gR_sI, gR_sJ, gR_sIA, Nat.reduceLeDiff, Nat.reduceEqDiff, Nat.reduceLT, Int.reduceLE, Int.reduceLT, Int.reduceEq, zWt_i, zWt_l, zWt_r, zWt_n, KT, zXkk KT, zXr0 KT, zXk0 KT, zXt0 KT, zXu0 KT, zXt1 KT, zXu1 KT, zXt2 KT, zXu2 KT, zXt3 KT, zXu3 KT, zXh0 KT] <;> omega) | omega | fail)) only [if_pos, if_neg, wI_id, zLc_lt, zLc_gt, zLc_eq, zLc_le, zLc_ge, Int.reduceEq, Int.reduceLE, Int.reduceLT, Int.reduceNeg, Int.reduceAdd, Int.reduceMul, Int.reduceSub, not_true_eq_false, not_false_eq_true, reduceIte, zPo_v, zPo_n, zPo_t, zKl_i, zKl_r, zKl_n, zKl_l, gK_sI, gK_sJ, gK_sR, gK_sIA, gK_sJA, gR_sI, gR_sJ, gJ_sI, gI_sJ, gI_sR, gJ_sR, gR_sIA, gJ_sIA, Nat.reduceLeDiff, Nat.reduceEqDiff, and_self, and_true, true_and, and_false, false_and, eX0_tray_0, eX0_tray_1, eX0_tray_2, eX0_tray_5, eX0_tray_6, eX0_tray_7, eX0_tray_10, eX0_tray_11, eX0_tray_12, eX0_tray_15, eX0_tray_16, eX0_tray_19, eX0_tray_20, eX0_tray_21, eX0_tray_24, eX0_tray_25, eX0_tray_27, eX0_tray_30, eX0_tray_31, eX0_tray_34, eX0_tray_35, eX0_tray_36, eX0_tray_39, eX0_tray_40, eX0_tray_43, eX0_tray_44, eX0_tray_45, eX0_tray_46, eX0_tray_47, eX0_tray_50, eX0_tray_53, eX0_tray_54, eX0_tray_55, eX0_tray_57, eX0_tray_58, eX0_tray_59, eX0_tray_62, eX0_tray_63, eX0_tray_64, eX0_tray_66, eX0_tray_67, eX0_tray_69, eX0_tray_72, tX0_tray_36_3, tX0_tray_36_30, tX0_tray_47_3, tX0_tray_47_30, eX0_tray_in, KT, zXkk KT, zXr0 KT, zXk0 KT, zXt0 KT, zXu0 KT, zXt1 KT, zXu1 KT, zXt2 KT, zXu2 KT, zXt3 KT, zXu3 KT, zXh0 KT]
      have e9 : sI (gTick (sI h 65 7 0) 3 400) 65 7 1 = gTick (sI h 65 7 1) 3 400 := by
        have := sI2 (h := h) (b := 65) (j := 7) (x := 0) (y := 1)
        show gTick (sI (sI h 65 7 0) 65 7 1) 3 400 = _
        rw [this]
      rw [e9]
      refine k 0 _ ⟨rfl, rfl, rfl⟩ (fun Q2 h2 => cM_tray (h := gTick (sI h 65 7 1) 3 400) PM (fun q => absurd q.2.2.1 (by omega)) (fun _ => h2 _ a nm (zR_stU R) zSc_stU zBu_stU))
  · have h9 := zJ_ref (x := 0) (w := 1) (y := 1) R (MM := mX6_tray) (as := [zi t, zi s, zi m]) (fun Q2 q => cM_tray (h := sI (sI h 73 6 1) 65 7 1) PM (fun q9 => absurd ⟨q9.1, q9.2.1, q9.2.2.2⟩ c) (fun _ => q)) k
    rw [← zX_ref] at h9
    simp (disch := (first | (simp only [gK_sI, gK_sJ, gK_sR, gK_sIA, gK_sJA, gR_sI, gR_sJ, gR_sIA, Nat.reduceLeDiff, Nat.reduceEqDiff, Nat.reduceLT, Int.reduceLE, Int.reduceLT, Int.reduceEq, zWt_i, zWt_l, zWt_r, zWt_n, K, zXkk K, zXr0 K, zXk0 K, zXt0 K, zXu0 K, zXt1 K, zXu1 K, zXt2 K, zXu2 K, zXt3 K, zXu3 K, zXh0 K, e2, k6] <;> omega) | omega | fail)) only [wI_id, zLc_lt, zLc_gt, zLc_eq, zLc_le, zLc_ge, Int.reduceEq, Int.reduceLE, Int.reduceLT, Int.reduceNeg, Int.reduceAdd, Int.reduceMul, Int.reduceSub, not_true_eq_false, not_false_eq_true, reduceIte, zPo_v, zPo_n, zPo_t, zKl_i, zKl_r, zKl_n, zKl_l, gK_sI, gK_sJ, gK_sR, gK_sIA, gK_sJA, gR_sI, gR_sJ, gJ_sI, gI_sJ, gI_sR, gJ_sR, gR_sIA, gJ_sIA, Nat.reduceLeDiff, Nat.reduceEqDiff, and_self, and_true, true_and, and_false, false_and, eX0_tray_0, eX0_tray_1, eX0_tray_2, eX0_tray_5, eX0_tray_6, eX0_tray_7, eX0_tray_10, eX0_tray_11, eX0_tray_12, eX0_tray_15, eX0_tray_16, eX0_tray_19, eX0_tray_20, eX0_tray_21, eX0_tray_24, eX0_tray_25, eX0_tray_27, eX0_tray_30, eX0_tray_31, eX0_tray_34, eX0_tray_35, eX0_tray_36, eX0_tray_40, eX0_tray_43, eX0_tray_44, eX0_tray_45, eX0_tray_46, eX0_tray_47, eX0_tray_50, eX0_tray_53, eX0_tray_54, eX0_tray_55, eX0_tray_57, eX0_tray_58, eX0_tray_59, eX0_tray_62, eX0_tray_63, eX0_tray_64, eX0_tray_66, eX0_tray_67, eX0_tray_69, eX0_tray_72, tX0_tray_36_3, tX0_tray_36_30, tX0_tray_47_3, tX0_tray_47_30, eX0_tray_in, K, zXkk K, zXr0 K, zXk0 K, zXt0 K, zXu0 K, zXt1 K, zXu1 K, zXt2 K, zXu2 K, zXt3 K, zXu3 K, zXh0 K, kX0_want0 (e2 0), kX0_no (K3 1), gI_sI_eq, zU_eq]
    (repeat' split) <;> first | exact h9 | (exfalso; omega)
end J9
