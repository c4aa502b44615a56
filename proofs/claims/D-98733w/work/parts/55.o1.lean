/-! ===== OPERATIONS, 1: what is told ===== -/
set_option maxRecDepth 100000
def oPrice (a : Int → Int) (p g : Int) : Int × Int := if (0 ≤ p ∧ p < a 2) ∧ (0 ≤ g ∧ g < a 1) then (if a (57 + 15 * p + g) = 0 then (-1, 6) else (a (57 + 15 * p + g), 0)) else (-1, 1)
def oWay (a : Int → Int) (p g : Int) : Int × Int := if (0 ≤ p ∧ p < a 2) ∧ (0 ≤ g ∧ g < a 2) ∧ p ≠ g then (if a (65 + 15 * p + g) = 0 then (-1, 6) else (a (65 + 15 * p + g), 0)) else (-1, 1)
def oPortOf (a : Int → Int) (p : Int) : Int × Int := if 0 ≤ p ∧ p < a 2 then (if a (56 + 15 * p) = -1 then (-1, 6) else (a (56 + 15 * p), 0)) else (-1, 1)
def oNation (a : Int → Int) (n x : Int) : Int × Int := if (0 ≤ n ∧ n < a 0) ∧ (0 ≤ x ∧ x ≤ 3) then (a (8 + 4 * n + x), 0) else (-1, 1)
def oGood (a : Int → Int) (n x : Int) : Int × Int := if (0 ≤ n ∧ n < a 1) ∧ (0 ≤ x ∧ x ≤ 2) then (a (32 + 3 * n + x), 0) else (-1, 1)
def oAboard (a : Int → Int) (s g : Int) : Int × Int := if (0 ≤ s ∧ s < a 3) ∧ (0 ≤ g ∧ g < a 1) then (a (153 + 15 * s + g), 0) else (-1, 1)
section O1
variable {d : Nat} {h : zHp} {Q : zRs → Prop} {a f nm : Int → Int}
theorem oM_price {p g : Int} (P : zMk h) (v : zIv a) : zCm mX6_price d [zr (some 113), zi p, zi g] (zH2 h a f) Q ↔ Q (zRv (zi (oPrice a p g).1) (zH2 (sI h 113 2 (oPrice a p g).2) a f)) := by
  have P2 : zMk (zH2 h a f) := P
  have b1 := (zIgd v).2.1
  have b2 := zIports v
  have e1 : 56 + 15 * p + 1 + g = 57 + 15 * p + g := by omega
  unfold oPrice
  (repeat' split) <;> (simp (disch := (first | (simp only [gK_sI, gK_sJ, gK_sR, gK_sIA, gK_sJA, gR_sI, gR_sJ, gR_sIA, Nat.reduceLeDiff, Nat.reduceEqDiff, Nat.reduceLT, Int.reduceLE, Int.reduceLT, Int.reduceEq, zWt_i, zWt_l, zWt_r, zWt_n, zH2_gK, zH2_mk, P, zMkk P] <;> omega) | omega | fail)) only [wI_id, zLc_lt, zLc_gt, zLc_eq, zLc_le, zLc_ge, Int.reduceEq, Int.reduceLE, Int.reduceLT, Int.reduceNeg, Int.reduceAdd, Int.reduceMul, Int.reduceSub, not_true_eq_false, not_false_eq_true, reduceIte, zPo_v, zPo_n, zPo_t, zKl_i, zKl_r, zKl_n, zKl_l, gK_sI, gK_sJ, gK_sR, gK_sIA, gK_sJA, gR_sI, gR_sJ, gJ_sI, gI_sJ, gI_sR, gJ_sR, gR_sIA, gJ_sIA, Nat.reduceLeDiff, Nat.reduceEqDiff, and_self, and_true, true_and, and_false, false_and, eX6_price_0, eX6_price_1, eX6_price_2, eX6_price_5, eX6_price_8, eX6_price_9, eX6_price_10, eX6_price_13, eX6_price_16, eX6_price_17, eX6_price_18, eX6_price_19, eX6_price_20, eX6_price_23, eX6_price_26, eX6_price_29, eX6_price_30, eX6_price_31, eX6_price_34, eX6_price_in, zH2_gK, zH2_gR, zH2_at, zH2_sI, zU_ne, P, zMkk P, cM_isPort P2, cM_isGood P2, kM_priceOf P, cM_orNothing P2, cM_refuse P2, zH2_sIne, e1] <;> all_goals ((repeat' split) <;> first | exact Iff.rfl | (exfalso; omega) | (rename_i w9; rw [w9] <;> exact Iff.rfl)))
theorem oX_price {p g : Int} (K : zXk h) (v : zIv a) (P : zPw h 75 a nm) : zCm mX0_price d [zr (some 65), zi p, zi g] h Q ↔ Q (zRv (zi (oPrice a p g).1) (sI h 65 7 (oPrice a p g).2)) := by
  have W := P.2.1
  have b1 := (zIgd v).2.1
  have b2 := zIports v
  have e2 : ∀ x, zXk (sI h 65 7 x) := fun _ => K
  by_cases hc : (0 ≤ p ∧ p < a 2) ∧ (0 ≤ g ∧ g < a 1)
  · have e1 : gI h 81 (8 * p + g) = a (57 + 15 * p + g) := P.2.2.1.2.2.2.2.2.2.2.1 p g (by omega) (by omega) (by omega) (by omega)
    have e3 := zIpr v p g (by omega) (by omega) (by omega) (by omega)
    unfold oPrice
    rw [if_pos hc]
    generalize a (57 + 15 * p + g) = y at e1 e3 ⊢
    simp (disch := (first | (simp only [gK_sI, gK_sJ, gK_sR, gK_sIA, gK_sJA, gR_sI, gR_sJ, gR_sIA, Nat.reduceLeDiff, Nat.reduceEqDiff, Nat.reduceLT, Int.reduceLE, Int.reduceLT, Int.reduceEq, zWt_i, zWt_l, zWt_r, zWt_n, K, zXkk K, zXh0 K, W, zWkk W, zWr11 W, zWk11 W, e2] <;> omega) | omega | fail)) only [if_pos, if_neg, wI_id, zLc_lt, zLc_gt, zLc_eq, zLc_le, zLc_ge, Int.reduceEq, Int.reduceLE, Int.reduceLT, Int.reduceNeg, Int.reduceAdd, Int.reduceMul, Int.reduceSub, not_true_eq_false, not_false_eq_true, reduceIte, zPo_v, zPo_n, zPo_t, zKl_i, zKl_r, zKl_n, zKl_l, gK_sI, gK_sJ, gK_sR, gK_sIA, gK_sJA, gR_sI, gR_sJ, gJ_sI, gI_sJ, gI_sR, gJ_sR, gR_sIA, gJ_sIA, Nat.reduceLeDiff, Nat.reduceEqDiff, and_self, and_true, true_and, and_false, false_and, eX0_price_0, eX0_price_1, eX0_price_2, eX0_price_3, eX0_price_6, eX0_price_9, eX0_price_10, eX0_price_11, eX0_price_14, eX0_price_17, eX0_price_18, eX0_price_21, eX0_price_22, eX0_price_25, eX0_price_26, eX0_price_29, eX0_price_32, eX0_price_33, eX0_price_34, eX0_price_35, eX0_price_38, eX0_price_41, eX0_price_43, eX0_price_44, eX0_price_45, eX0_price_46, eX0_price_47, eX0_price_48, eX0_price_49, eX0_price_50, eX0_price_51, eX0_price_54, eX0_price_55, eX0_price_58, eX0_price_59, eX0_price_62, tX0_price, eX0_price_in, K, zXkk K, zXh0 K, W, zWkk W, zWr11 W, zWk11 W, kX0_isPort K v P, kX0_isGood K v P, kX0_at, gI_sI_ne, gI_sI_eq, zU_eq, Nat.reduceAdd, e1, kX0_answer, sI2]
    all_goals ((repeat' split) <;> first | exact Iff.rfl | (exfalso; omega) | (rename_i w9; rw [w9] <;> exact Iff.rfl))
  · unfold oPrice
    rw [if_neg hc]
    simp (disch := (first | (simp only [gK_sI, gK_sJ, gK_sR, gK_sIA, gK_sJA, gR_sI, gR_sJ, gR_sIA, Nat.reduceLeDiff, Nat.reduceEqDiff, Nat.reduceLT, Int.reduceLE, Int.reduceLT, Int.reduceEq, zWt_i, zWt_l, zWt_r, zWt_n, K, zXkk K, zXh0 K, W, zWkk W, zWr11 W, zWk11 W, e2] <;> omega) | omega | fail)) only [if_pos, if_neg, wI_id, zLc_lt, zLc_gt, zLc_eq, zLc_le, zLc_ge, Int.reduceEq, Int.reduceLE, Int.reduceLT, Int.reduceNeg, Int.reduceAdd, Int.reduceMul, Int.reduceSub, not_true_eq_false, not_false_eq_true, reduceIte, zPo_v, zPo_n, zPo_t, zKl_i, zKl_r, zKl_n, zKl_l, gK_sI, gK_sJ, gK_sR, gK_sIA, gK_sJA, gR_sI, gR_sJ, gJ_sI, gI_sJ, gI_sR, gJ_sR, gR_sIA, gJ_sIA, Nat.reduceLeDiff, Nat.reduceEqDiff, and_self, and_true, true_and, and_false, false_and, eX0_price_0, eX0_price_1, eX0_price_2, eX0_price_3, eX0_price_6, eX0_price_9, eX0_price_10, eX0_price_11, eX0_price_14, eX0_price_17, eX0_price_18, eX0_price_21, eX0_price_22, eX0_price_25, eX0_price_26, eX0_price_29, eX0_price_32, eX0_price_33, eX0_price_34, eX0_price_35, eX0_price_38, eX0_price_41, eX0_price_43, eX0_price_44, eX0_price_45, eX0_price_46, eX0_price_47, eX0_price_48, eX0_price_49, eX0_price_50, eX0_price_51, eX0_price_54, eX0_price_55, eX0_price_58, eX0_price_59, eX0_price_62, tX0_price, eX0_price_in, K, zXkk K, zXh0 K, W, zWkk W, zWr11 W, zWk11 W, kX0_isPort K v P, kX0_isGood K v P, gI_sI_ne, gI_sI_eq, zU_eq]
    all_goals ((repeat' split) <;> first | exact Iff.rfl | (exfalso; omega) | (rename_i w9; rw [w9] <;> exact Iff.rfl))
theorem oM_way {p g : Int} (P : zMk h) (v : zIv a) : zCm mX6_way d [zr (some 113), zi p, zi g] (zH2 h a f) Q ↔ Q (zRv (zi (oWay a p g).1) (zH2 (sI h 113 2 (oWay a p g).2) a f)) := by
  have P2 : zMk (zH2 h a f) := P
  have b0 := (zIgd v).1
  have b1 := (zIgd v).2.1
  have b2 := zIports v
  have b3 := zIships v
  have e1 : 56 + 15 * p + 9 + g = 65 + 15 * p + g := by omega
  unfold oWay
  (repeat' split) <;> (simp (disch := (first | (simp only [gK_sI, gK_sJ, gK_sR, gK_sIA, gK_sJA, gR_sI, gR_sJ, gR_sIA, Nat.reduceLeDiff, Nat.reduceEqDiff, Nat.reduceLT, Int.reduceLE, Int.reduceLT, Int.reduceEq, zWt_i, zWt_l, zWt_r, zWt_n, zH2_gK, zH2_mk, P, zMkk P] <;> omega) | omega | fail)) only [wI_id, zLc_lt, zLc_gt, zLc_eq, zLc_le, zLc_ge, Int.reduceEq, Int.reduceLE, Int.reduceLT, Int.reduceNeg, Int.reduceAdd, Int.reduceMul, Int.reduceSub, not_true_eq_false, not_false_eq_true, reduceIte, zPo_v, zPo_n, zPo_t, zKl_i, zKl_r, zKl_n, zKl_l, gK_sI, gK_sJ, gK_sR, gK_sIA, gK_sJA, gR_sI, gR_sJ, gJ_sI, gI_sJ, gI_sR, gJ_sR, gR_sIA, gJ_sIA, Nat.reduceLeDiff, Nat.reduceEqDiff, and_self, and_true, true_and, and_false, false_and, eX6_way_0, eX6_way_1, eX6_way_2, eX6_way_3, eX6_way_6, eX6_way_9, eX6_way_10, eX6_way_11, eX6_way_12, eX6_way_13, eX6_way_16, eX6_way_19, eX6_way_22, eX6_way_23, eX6_way_24, eX6_way_27, eX6_way_in, zH2_gK, zH2_gR, zH2_at, zH2_sI, zU_ne, P, zMkk P, cM_areTwo P2, kM_wayOf P, cM_orNothing P2, cM_refuse P2, zH2_sIne, e1] <;> all_goals ((repeat' split) <;> first | exact Iff.rfl | (exfalso; omega) | (rename_i w9; rw [w9] <;> exact Iff.rfl)))
theorem oX_way {p g : Int} (K : zXk h) (v : zIv a) (P : zPw h 75 a nm) : zCm mX0_way d [zr (some 65), zi p, zi g] h Q ↔ Q (zRv (zi (oWay a p g).1) (sI h 65 7 (oWay a p g).2)) := by
  have W := P.2.1
  have b0 := (zIgd v).1
  have b1 := (zIgd v).2.1
  have b2 := zIports v
  have b3 := zIships v
  have e2 : ∀ x, zXk (sI h 65 7 x) := fun _ => K
  by_cases hc : (0 ≤ p ∧ p < a 2) ∧ (0 ≤ g ∧ g < a 2) ∧ p ≠ g
  · have e1 : gI h 82 (6 * p + g) = a (65 + 15 * p + g) := P.2.2.1.2.2.2.2.2.2.2.2.1 p g (by omega) (by omega) (by omega) (by omega)
    have e3 := zIway v p g (by omega) (by omega) (by omega) (by omega)
    unfold oWay
    rw [if_pos hc]
    generalize a (65 + 15 * p + g) = y at e1 e3 ⊢
    simp (disch := (first | (simp only [gK_sI, gK_sJ, gK_sR, gK_sIA, gK_sJA, gR_sI, gR_sJ, gR_sIA, Nat.reduceLeDiff, Nat.reduceEqDiff, Nat.reduceLT, Int.reduceLE, Int.reduceLT, Int.reduceEq, zWt_i, zWt_l, zWt_r, zWt_n, K, zXkk K, zXh0 K, W, zWkk W, zWr12 W, zWk12 W, e2] <;> omega) | omega | fail)) only [if_pos, if_neg, wI_id, zLc_lt, zLc_gt, zLc_eq, zLc_le, zLc_ge, Int.reduceEq, Int.reduceLE, Int.reduceLT, Int.reduceNeg, Int.reduceAdd, Int.reduceMul, Int.reduceSub, not_true_eq_false, not_false_eq_true, reduceIte, zPo_v, zPo_n, zPo_t, zKl_i, zKl_r, zKl_n, zKl_l, gK_sI, gK_sJ, gK_sR, gK_sIA, gK_sJA, gR_sI, gR_sJ, gJ_sI, gI_sJ, gI_sR, gJ_sR, gR_sIA, gJ_sIA, Nat.reduceLeDiff, Nat.reduceEqDiff, and_self, and_true, true_and, and_false, false_and, eX0_way_0, eX0_way_1, eX0_way_2, eX0_way_3, eX0_way_4, eX0_way_7, eX0_way_10, eX0_way_11, eX0_way_14, eX0_way_15, eX0_way_18, eX0_way_19, eX0_way_22, eX0_way_25, eX0_way_26, eX0_way_27, eX0_way_28, eX0_way_31, eX0_way_34, eX0_way_36, eX0_way_37, eX0_way_38, eX0_way_39, eX0_way_40, eX0_way_41, eX0_way_42, eX0_way_43, eX0_way_44, eX0_way_47, eX0_way_48, eX0_way_51, eX0_way_52, eX0_way_55, tX0_way, eX0_way_in, K, zXkk K, zXh0 K, W, zWkk W, zWr12 W, zWk12 W, kX0_arePorts K v P, kX0_at, gI_sI_ne, gI_sI_eq, zU_eq, Nat.reduceAdd, e1, kX0_answer, sI2]
    all_goals ((repeat' split) <;> first | exact Iff.rfl | (exfalso; omega) | (rename_i w9; rw [w9] <;> exact Iff.rfl))
  · unfold oWay
    rw [if_neg hc]
    simp (disch := (first | (simp only [gK_sI, gK_sJ, gK_sR, gK_sIA, gK_sJA, gR_sI, gR_sJ, gR_sIA, Nat.reduceLeDiff, Nat.reduceEqDiff, Nat.reduceLT, Int.reduceLE, Int.reduceLT, Int.reduceEq, zWt_i, zWt_l, zWt_r, zWt_n, K, zXkk K, zXh0 K, W, zWkk W, zWr12 W, zWk12 W, e2] <;> omega) | omega | fail)) only [if_pos, if_neg, wI_id, zLc_lt, zLc_gt, zLc_eq, zLc_le, zLc_ge, Int.reduceEq, Int.reduceLE, Int.reduceLT, Int.reduceNeg, Int.reduceAdd, Int.reduceMul, Int.reduceSub, not_true_eq_false, not_false_eq_true, reduceIte, zPo_v, zPo_n, zPo_t, zKl_i, zKl_r, zKl_n, zKl_l, gK_sI, gK_sJ, gK_sR, gK_sIA, gK_sJA, gR_sI, gR_sJ, gJ_sI, gI_sJ, gI_sR, gJ_sR, gR_sIA, gJ_sIA, Nat.reduceLeDiff, Nat.reduceEqDiff, and_self, and_true, true_and, and_false, false_and, eX0_way_0, eX0_way_1, eX0_way_2, eX0_way_3, eX0_way_4, eX0_way_7, eX0_way_10, eX0_way_11, eX0_way_14, eX0_way_15, eX0_way_18, eX0_way_19, eX0_way_22, eX0_way_25, eX0_way_26, eX0_way_27, eX0_way_28, eX0_way_31, eX0_way_34, eX0_way_36, eX0_way_37, eX0_way_38, eX0_way_39, eX0_way_40, eX0_way_41, eX0_way_42, eX0_way_43, eX0_way_44, eX0_way_47, eX0_way_48, eX0_way_51, eX0_way_52, eX0_way_55, tX0_way, eX0_way_in, K, zXkk K, zXh0 K, W, zWkk W, zWr12 W, zWk12 W, kX0_arePorts K v P, gI_sI_ne, gI_sI_eq, zU_eq]
    all_goals ((repeat' split) <;> first | exact Iff.rfl | (exfalso; omega) | (rename_i w9; rw [w9] <;> exact Iff.rfl))
theorem oM_portOf {p : Int} (P : zMk h) (v : zIv a) : zCm mX6_portOf d [zr (some 113), zi p] (zH2 h a f) Q ↔ Q (zRv (zi (oPortOf a p).1) (zH2 (sI h 113 2 (oPortOf a p).2) a f)) := by
  have P2 : zMk (zH2 h a f) := P
  have b0 := (zIgd v).1
  have b1 := (zIgd v).2.1
  have b2 := zIports v
  have b3 := zIships v
  unfold oPortOf
  (repeat' split) <;> (simp (disch := (first | (simp only [gK_sI, gK_sJ, gK_sR, gK_sIA, gK_sJA, gR_sI, gR_sJ, gR_sIA, Nat.reduceLeDiff, Nat.reduceEqDiff, Nat.reduceLT, Int.reduceLE, Int.reduceLT, Int.reduceEq, zWt_i, zWt_l, zWt_r, zWt_n, zH2_gK, zH2_mk, P, zMkk P, zMr0 P, zMk0 P] <;> omega) | omega | fail)) only [wI_id, zLc_lt, zLc_gt, zLc_eq, zLc_le, zLc_ge, Int.reduceEq, Int.reduceLE, Int.reduceLT, Int.reduceNeg, Int.reduceAdd, Int.reduceMul, Int.reduceSub, not_true_eq_false, not_false_eq_true, reduceIte, zPo_v, zPo_n, zPo_t, zKl_i, zKl_r, zKl_n, zKl_l, gK_sI, gK_sJ, gK_sR, gK_sIA, gK_sJA, gR_sI, gR_sJ, gJ_sI, gI_sJ, gI_sR, gJ_sR, gR_sIA, gJ_sIA, Nat.reduceLeDiff, Nat.reduceEqDiff, and_self, and_true, true_and, and_false, false_and, eX6_portOf_0, eX6_portOf_1, eX6_portOf_2, eX6_portOf_5, eX6_portOf_8, eX6_portOf_9, eX6_portOf_10, eX6_portOf_13, eX6_portOf_14, eX6_portOf_17, eX6_portOf_18, eX6_portOf_21, eX6_portOf_24, eX6_portOf_25, eX6_portOf_26, eX6_portOf_29, eX6_portOf_in, zH2_gK, zH2_gR, zH2_at, zH2_sI, zU_ne, P, zMkk P, zMr0 P, zMk0 P, cM_isPort P2, cM_portRow, cM_orNone P2, cM_refuse P2, zH2_sIne] <;> all_goals ((repeat' split) <;> first | exact Iff.rfl | (exfalso; omega) | (rename_i w9; rw [w9] <;> exact Iff.rfl)))
theorem oX_portOf {p : Int} (K : zXk h) (v : zIv a) (P : zPw h 75 a nm) : zCm mX0_portOf d [zr (some 65), zi p] h Q ↔ Q (zRv (zi (oPortOf a p).1) (sI h 65 7 (oPortOf a p).2)) := by
  have W := P.2.1
  have b0 := (zIgd v).1
  have b1 := (zIgd v).2.1
  have b2 := zIports v
  have b3 := zIships v
  have e2 : ∀ x, zXk (sI h 65 7 x) := fun _ => K
  by_cases hc : 0 ≤ p ∧ p < a 2
  · obtain ⟨N, n1, n2, n3⟩ := P.2.2.2.2.2.1
    obtain ⟨p9, p1, p2, p3, p6⟩ := n3 p (by omega) (by omega)
    have n9 : p9 ≠ 65 := fun e => by rw [e, zXkk K] at p2; exact absurd (congrArg Prod.snd p2) (by decide)
    have e3 := zIpn v p (by omega) (by omega)
    unfold oPortOf
    rw [if_pos hc]
    generalize a (56 + 15 * p) = y at p3 e3 ⊢
    simp (disch := (first | (simp only [gK_sI, gK_sJ, gK_sR, gK_sIA, gK_sJA, gR_sI, gR_sJ, gR_sIA, Nat.reduceLeDiff, Nat.reduceEqDiff, Nat.reduceLT, Int.reduceLE, Int.reduceLT, Int.reduceEq, zWt_i, zWt_l, zWt_r, zWt_n, K, zXkk K, zXh0 K, W, zWkk W, e2, n2, p2] <;> omega) | omega | fail)) only [if_pos, if_neg, wI_id, zLc_lt, zLc_gt, zLc_eq, zLc_le, zLc_ge, Int.reduceEq, Int.reduceLE, Int.reduceLT, Int.reduceNeg, Int.reduceAdd, Int.reduceMul, Int.reduceSub, not_true_eq_false, not_false_eq_true, reduceIte, zPo_v, zPo_n, zPo_t, zKl_i, zKl_r, zKl_n, zKl_l, gK_sI, gK_sJ, gK_sR, gK_sIA, gK_sJA, gR_sI, gR_sJ, gJ_sI, gI_sJ, gI_sR, gJ_sR, gR_sIA, gJ_sIA, Nat.reduceLeDiff, Nat.reduceEqDiff, and_self, and_true, true_and, and_false, false_and, eX0_portOf_0, eX0_portOf_1, eX0_portOf_2, eX0_portOf_3, eX0_portOf_6, eX0_portOf_9, eX0_portOf_10, eX0_portOf_13, eX0_portOf_14, eX0_portOf_17, eX0_portOf_18, eX0_portOf_21, eX0_portOf_24, eX0_portOf_25, eX0_portOf_28, eX0_portOf_29, eX0_portOf_30, eX0_portOf_33, eX0_portOf_36, eX0_portOf_37, eX0_portOf_38, eX0_portOf_41, eX0_portOf_44, tX0_portOf, eX0_portOf_in, K, zXkk K, zXh0 K, W, zWkk W, kX0_isPort K v P, kX0_at, gI_sI_ne, gI_sI_eq, zU_eq, Nat.reduceAdd, n1, p1, p3, kX0_answer, sI2]
    all_goals ((repeat' split) <;> first | exact Iff.rfl | (exfalso; omega) | (rename_i w9; rw [w9] <;> exact Iff.rfl))
  · unfold oPortOf
    rw [if_neg hc]
    simp (disch := (first | (simp only [gK_sI, gK_sJ, gK_sR, gK_sIA, gK_sJA, gR_sI, gR_sJ, gR_sIA, Nat.reduceLeDiff, Nat.reduceEqDiff, Nat.reduceLT, Int.reduceLE, Int.reduceLT, Int.reduceEq, zWt_i, zWt_l, zWt_r, zWt_n, K, zXkk K, zXh0 K, W, zWkk W, e2] <;> omega) | omega | fail)) only [if_pos, if_neg, wI_id, zLc_lt, zLc_gt, zLc_eq, zLc_le, zLc_ge, Int.reduceEq, Int.reduceLE, Int.reduceLT, Int.reduceNeg, Int.reduceAdd, Int.reduceMul, Int.reduceSub, not_true_eq_false, not_false_eq_true, reduceIte, zPo_v, zPo_n, zPo_t, zKl_i, zKl_r, zKl_n, zKl_l, gK_sI, gK_sJ, gK_sR, gK_sIA, gK_sJA, gR_sI, gR_sJ, gJ_sI, gI_sJ, gI_sR, gJ_sR, gR_sIA, gJ_sIA, Nat.reduceLeDiff, Nat.reduceEqDiff, and_self, and_true, true_and, and_false, false_and, eX0_portOf_0, eX0_portOf_1, eX0_portOf_2, eX0_portOf_3, eX0_portOf_6, eX0_portOf_9, eX0_portOf_10, eX0_portOf_13, eX0_portOf_14, eX0_portOf_17, eX0_portOf_18, eX0_portOf_21, eX0_portOf_24, eX0_portOf_25, eX0_portOf_28, eX0_portOf_29, eX0_portOf_30, eX0_portOf_33, eX0_portOf_36, eX0_portOf_37, eX0_portOf_38, eX0_portOf_41, eX0_portOf_44, tX0_portOf, eX0_portOf_in, K, zXkk K, zXh0 K, W, zWkk W, kX0_isPort K v P, gI_sI_ne, gI_sI_eq, zU_eq]
    all_goals ((repeat' split) <;> first | exact Iff.rfl | (exfalso; omega) | (rename_i w9; rw [w9] <;> exact Iff.rfl))
theorem oM_nation {n x : Int} (P : zMk h) (v : zIv a) : zCm mX6_nation d [zr (some 113), zi n, zi x] (zH2 h a f) Q ↔ Q (zRv (zi (oNation a n x).1) (zH2 (sI h 113 2 (oNation a n x).2) a f)) := by
  have P2 : zMk (zH2 h a f) := P
  have b0 := (zIgd v).1
  have b1 := (zIgd v).2.1
  have b2 := zIports v
  have b3 := zIships v
  unfold oNation
  (repeat' split) <;> (simp (disch := (first | (simp only [gK_sI, gK_sJ, gK_sR, gK_sIA, gK_sJA, gR_sI, gR_sJ, gR_sIA, Nat.reduceLeDiff, Nat.reduceEqDiff, Nat.reduceLT, Int.reduceLE, Int.reduceLT, Int.reduceEq, zWt_i, zWt_l, zWt_r, zWt_n, zH2_gK, zH2_mk, P, zMkk P, zMr0 P, zMk0 P] <;> omega) | omega | fail)) only [wI_id, zLc_lt, zLc_gt, zLc_eq, zLc_le, zLc_ge, Int.reduceEq, Int.reduceLE, Int.reduceLT, Int.reduceNeg, Int.reduceAdd, Int.reduceMul, Int.reduceSub, not_true_eq_false, not_false_eq_true, reduceIte, zPo_v, zPo_n, zPo_t, zKl_i, zKl_r, zKl_n, zKl_l, gK_sI, gK_sJ, gK_sR, gK_sIA, gK_sJA, gR_sI, gR_sJ, gJ_sI, gI_sJ, gI_sR, gJ_sR, gR_sIA, gJ_sIA, Nat.reduceLeDiff, Nat.reduceEqDiff, and_self, and_true, true_and, and_false, false_and, eX6_nation_0, eX6_nation_1, eX6_nation_2, eX6_nation_5, eX6_nation_8, eX6_nation_9, eX6_nation_12, eX6_nation_13, eX6_nation_14, eX6_nation_17, eX6_nation_18, eX6_nation_19, eX6_nation_22, eX6_nation_23, eX6_nation_26, eX6_nation_27, eX6_nation_28, eX6_nation_29, eX6_nation_32, eX6_nation_35, eX6_nation_36, eX6_nation_37, eX6_nation_40, eX6_nation_in, zH2_gK, zH2_gR, zH2_at, zH2_sI, zU_ne, P, zMkk P, zMr0 P, zMk0 P, cM_isNation P2, cM_nationRow, cM_gives P2, cM_refuse P2, zH2_sIne] <;> all_goals ((repeat' split) <;> first | exact Iff.rfl | (exfalso; omega) | (rename_i w9; rw [w9] <;> exact Iff.rfl)))
theorem oX_nation {n x : Int} (K : zXk h) (v : zIv a) (P : zPw h 75 a nm) : zCm mX0_nation d [zr (some 65), zi n, zi x] h Q ↔ Q (zRv (zi (oNation a n x).1) (sI h 65 7 (oNation a n x).2)) := by
  have W := P.2.1
  have b0 := (zIgd v).1
  have b1 := (zIgd v).2.1
  have b2 := zIports v
  have b3 := zIships v
  have e2 : ∀ x, zXk (sI h 65 7 x) := fun _ => K
  by_cases hc : (0 ≤ n ∧ n < a 0) ∧ (0 ≤ x ∧ x ≤ 3)
  · obtain ⟨N, n1, n2, n3⟩ := P.2.2.2.1
    obtain ⟨p9, p1, p2, p3, p4, p5, p6⟩ := n3 n (by omega) (by omega)
    have n9 : p9 ≠ 65 := fun e => by rw [e, zXkk K] at p2; exact absurd (congrArg Prod.snd p2) (by decide)
    have q6 : gI h 80 n = a (11 + 4 * n) := P.2.2.1.2.2.2.2.2.2.1 n (by omega) (by omega)
    have hx : x = 0 ∨ x = 1 ∨ x = 2 ∨ x = 3 := by omega
    have e0 : 8 + 4 * n + 0 = 8 + 4 * n := by omega
    have e1 : 8 + 4 * n + 1 = 9 + 4 * n := by omega
    have e4 : 8 + 4 * n + 2 = 10 + 4 * n := by omega
    have e5 : 8 + 4 * n + 3 = 11 + 4 * n := by omega
    unfold oNation
    rw [if_pos hc]
    obtain rfl | rfl | rfl | rfl := hx <;> (simp (disch := (first | (simp only [gK_sI, gK_sJ, gK_sR, gK_sIA, gK_sJA, gR_sI, gR_sJ, gR_sIA, Nat.reduceLeDiff, Nat.reduceEqDiff, Nat.reduceLT, Int.reduceLE, Int.reduceLT, Int.reduceEq, zWt_i, zWt_l, zWt_r, zWt_n, K, zXkk K, zXh0 K, W, zWkk W, zWr10 W, zWk10 W, e2, n2, p2] <;> omega) | omega | fail)) only [if_pos, if_neg, wI_id, zLc_lt, zLc_gt, zLc_eq, zLc_le, zLc_ge, Int.reduceEq, Int.reduceLE, Int.reduceLT, Int.reduceNeg, Int.reduceAdd, Int.reduceMul, Int.reduceSub, not_true_eq_false, not_false_eq_true, reduceIte, zPo_v, zPo_n, zPo_t, zKl_i, zKl_r, zKl_n, zKl_l, gK_sI, gK_sJ, gK_sR, gK_sIA, gK_sJA, gR_sI, gR_sJ, gJ_sI, gI_sJ, gI_sR, gJ_sR, gR_sIA, gJ_sIA, Nat.reduceLeDiff, Nat.reduceEqDiff, and_self, and_true, true_and, and_false, false_and, eX0_nation_0, eX0_nation_1, eX0_nation_2, eX0_nation_3, eX0_nation_6, eX0_nation_9, eX0_nation_10, eX0_nation_11, eX0_nation_12, eX0_nation_15, eX0_nation_18, eX0_nation_21, eX0_nation_22, eX0_nation_25, eX0_nation_26, eX0_nation_29, eX0_nation_30, eX0_nation_33, eX0_nation_36, eX0_nation_37, eX0_nation_38, eX0_nation_39, eX0_nation_42, eX0_nation_45, eX0_nation_46, eX0_nation_47, eX0_nation_48, eX0_nation_49, eX0_nation_52, eX0_nation_53, eX0_nation_56, eX0_nation_59, eX0_nation_60, eX0_nation_61, eX0_nation_64, eX0_nation_65, eX0_nation_68, eX0_nation_71, eX0_nation_72, eX0_nation_73, eX0_nation_76, eX0_nation_77, eX0_nation_80, eX0_nation_83, eX0_nation_84, eX0_nation_87, eX0_nation_90, eX0_nation_91, eX0_nation_92, tX0_nation, eX0_nation_in, K, zXkk K, zXh0 K, W, zWkk W, zWr10 W, zWk10 W, kX0_isNation K v P, kX0_isIn, kX0_at, gI_sI_ne, gI_sI_eq, zU_eq, Nat.reduceAdd, n1, p1, p3, p4, p5, q6, e0, e1, e4, e5] <;> all_goals ((repeat' split) <;> first | exact Iff.rfl | (exfalso; omega) | (rename_i w9; rw [w9] <;> exact Iff.rfl)))
  · unfold oNation
    rw [if_neg hc]
    simp (disch := (first | (simp only [gK_sI, gK_sJ, gK_sR, gK_sIA, gK_sJA, gR_sI, gR_sJ, gR_sIA, Nat.reduceLeDiff, Nat.reduceEqDiff, Nat.reduceLT, Int.reduceLE, Int.reduceLT, Int.reduceEq, zWt_i, zWt_l, zWt_r, zWt_n, K, zXkk K, zXh0 K, W, zWkk W, zWr10 W, zWk10 W, e2] <;> omega) | omega | fail)) only [wI_id, zLc_lt, zLc_gt, zLc_eq, zLc_le, zLc_ge, Int.reduceEq, Int.reduceLE, Int.reduceLT, Int.reduceNeg, Int.reduceAdd, Int.reduceMul, Int.reduceSub, not_true_eq_false, not_false_eq_true, reduceIte, zPo_v, zPo_n, zPo_t, zKl_i, zKl_r, zKl_n, zKl_l, gK_sI, gK_sJ, gK_sR, gK_sIA, gK_sJA, gR_sI, gR_sJ, gJ_sI, gI_sJ, gI_sR, gJ_sR, gR_sIA, gJ_sIA, Nat.reduceLeDiff, Nat.reduceEqDiff, and_self, and_true, true_and, and_false, false_and, eX0_nation_0, eX0_nation_1, eX0_nation_2, eX0_nation_3, eX0_nation_6, eX0_nation_9, eX0_nation_10, eX0_nation_11, eX0_nation_12, eX0_nation_15, eX0_nation_18, eX0_nation_21, eX0_nation_22, eX0_nation_25, eX0_nation_26, eX0_nation_29, eX0_nation_30, eX0_nation_33, eX0_nation_36, eX0_nation_37, eX0_nation_38, eX0_nation_39, eX0_nation_42, eX0_nation_45, eX0_nation_46, eX0_nation_47, eX0_nation_48, eX0_nation_49, eX0_nation_52, eX0_nation_53, eX0_nation_56, eX0_nation_59, eX0_nation_60, eX0_nation_61, eX0_nation_64, eX0_nation_65, eX0_nation_68, eX0_nation_71, eX0_nation_72, eX0_nation_73, eX0_nation_76, eX0_nation_77, eX0_nation_80, eX0_nation_83, eX0_nation_84, eX0_nation_87, eX0_nation_90, eX0_nation_91, eX0_nation_92, tX0_nation, eX0_nation_in, K, zXkk K, zXh0 K, W, zWkk W, zWr10 W, zWk10 W, kX0_isNation K v P, kX0_isIn, gI_sI_ne, gI_sI_eq, zU_eq]
    all_goals ((repeat' split) <;> first | exact Iff.rfl | (exfalso; omega) | (rename_i w9; rw [w9] <;> exact Iff.rfl))
theorem oM_good {n x : Int} (P : zMk h) (v : zIv a) : zCm mX6_good d [zr (some 113), zi n, zi x] (zH2 h a f) Q ↔ Q (zRv (zi (oGood a n x).1) (zH2 (sI h 113 2 (oGood a n x).2) a f)) := by
  have P2 : zMk (zH2 h a f) := P
  have b0 := (zIgd v).1
  have b1 := (zIgd v).2.1
  have b2 := zIports v
  have b3 := zIships v
  unfold oGood
  (repeat' split) <;> (simp (disch := (first | (simp only [gK_sI, gK_sJ, gK_sR, gK_sIA, gK_sJA, gR_sI, gR_sJ, gR_sIA, Nat.reduceLeDiff, Nat.reduceEqDiff, Nat.reduceLT, Int.reduceLE, Int.reduceLT, Int.reduceEq, zWt_i, zWt_l, zWt_r, zWt_n, zH2_gK, zH2_mk, P, zMkk P, zMr0 P, zMk0 P] <;> omega) | omega | fail)) only [wI_id, zLc_lt, zLc_gt, zLc_eq, zLc_le, zLc_ge, Int.reduceEq, Int.reduceLE, Int.reduceLT, Int.reduceNeg, Int.reduceAdd, Int.reduceMul, Int.reduceSub, not_true_eq_false, not_false_eq_true, reduceIte, zPo_v, zPo_n, zPo_t, zKl_i, zKl_r, zKl_n, zKl_l, gK_sI, gK_sJ, gK_sR, gK_sIA, gK_sJA, gR_sI, gR_sJ, gJ_sI, gI_sJ, gI_sR, gJ_sR, gR_sIA, gJ_sIA, Nat.reduceLeDiff, Nat.reduceEqDiff, and_self, and_true, true_and, and_false, false_and, eX6_good_0, eX6_good_1, eX6_good_2, eX6_good_5, eX6_good_8, eX6_good_9, eX6_good_12, eX6_good_13, eX6_good_14, eX6_good_17, eX6_good_18, eX6_good_19, eX6_good_22, eX6_good_23, eX6_good_26, eX6_good_27, eX6_good_28, eX6_good_29, eX6_good_32, eX6_good_35, eX6_good_36, eX6_good_37, eX6_good_40, eX6_good_in, zH2_gK, zH2_gR, zH2_at, zH2_sI, zU_ne, P, zMkk P, zMr0 P, zMk0 P, cM_isGood P2, cM_goodRow, cM_gives P2, cM_refuse P2, zH2_sIne] <;> all_goals ((repeat' split) <;> first | exact Iff.rfl | (exfalso; omega) | (rename_i w9; rw [w9] <;> exact Iff.rfl)))
theorem oX_good {n x : Int} (K : zXk h) (v : zIv a) (P : zPw h 75 a nm) : zCm mX0_good d [zr (some 65), zi n, zi x] h Q ↔ Q (zRv (zi (oGood a n x).1) (sI h 65 7 (oGood a n x).2)) := by
  have W := P.2.1
  have b0 := (zIgd v).1
  have b1 := (zIgd v).2.1
  have b2 := zIports v
  have b3 := zIships v
  have e2 : ∀ x, zXk (sI h 65 7 x) := fun _ => K
  by_cases hc : (0 ≤ n ∧ n < a 1) ∧ (0 ≤ x ∧ x ≤ 2)
  · obtain ⟨N, n1, n2, n3⟩ := P.2.2.2.2.1
    obtain ⟨p9, p1, p2, p3, p4, p5, p6⟩ := n3 n (by omega) (by omega)
    have n9 : p9 ≠ 65 := fun e => by rw [e, zXkk K] at p2; exact absurd (congrArg Prod.snd p2) (by decide)
    have hx : x = 0 ∨ x = 1 ∨ x = 2 := by omega
    have e0 : 32 + 3 * n + 0 = 32 + 3 * n := by omega
    have e1 : 32 + 3 * n + 1 = 33 + 3 * n := by omega
    have e4 : 32 + 3 * n + 2 = 34 + 3 * n := by omega
    unfold oGood
    rw [if_pos hc]
    obtain rfl | rfl | rfl := hx <;> (simp (disch := (first | (simp only [gK_sI, gK_sJ, gK_sR, gK_sIA, gK_sJA, gR_sI, gR_sJ, gR_sIA, Nat.reduceLeDiff, Nat.reduceEqDiff, Nat.reduceLT, Int.reduceLE, Int.reduceLT, Int.reduceEq, zWt_i, zWt_l, zWt_r, zWt_n, K, zXkk K, zXh0 K, W, zWkk W, e2, n2, p2] <;> omega) | omega | fail)) only [if_pos, if_neg, wI_id, zLc_lt, zLc_gt, zLc_eq, zLc_le, zLc_ge, Int.reduceEq, Int.reduceLE, Int.reduceLT, Int.reduceNeg, Int.reduceAdd, Int.reduceMul, Int.reduceSub, not_true_eq_false, not_false_eq_true, reduceIte, zPo_v, zPo_n, zPo_t, zKl_i, zKl_r, zKl_n, zKl_l, gK_sI, gK_sJ, gK_sR, gK_sIA, gK_sJA, gR_sI, gR_sJ, gJ_sI, gI_sJ, gI_sR, gJ_sR, gR_sIA, gJ_sIA, Nat.reduceLeDiff, Nat.reduceEqDiff, and_self, and_true, true_and, and_false, false_and, eX0_good_0, eX0_good_1, eX0_good_2, eX0_good_3, eX0_good_6, eX0_good_9, eX0_good_10, eX0_good_11, eX0_good_12, eX0_good_15, eX0_good_18, eX0_good_21, eX0_good_22, eX0_good_25, eX0_good_26, eX0_good_29, eX0_good_30, eX0_good_33, eX0_good_36, eX0_good_37, eX0_good_38, eX0_good_39, eX0_good_42, eX0_good_45, eX0_good_46, eX0_good_47, eX0_good_48, eX0_good_49, eX0_good_52, eX0_good_53, eX0_good_56, eX0_good_59, eX0_good_60, eX0_good_61, eX0_good_64, eX0_good_65, eX0_good_68, eX0_good_71, eX0_good_72, eX0_good_75, tX0_good, eX0_good_in, K, zXkk K, zXh0 K, W, zWkk W, kX0_isGood K v P, kX0_isIn, kX0_at, gI_sI_ne, gI_sI_eq, zU_eq, Nat.reduceAdd, n1, p1, p3, p4, p5, e0, e1, e4] <;> all_goals ((repeat' split) <;> first | exact Iff.rfl | (exfalso; omega) | (rename_i w9; rw [w9] <;> exact Iff.rfl)))
  · unfold oGood
    rw [if_neg hc]
    simp (disch := (first | (simp only [gK_sI, gK_sJ, gK_sR, gK_sIA, gK_sJA, gR_sI, gR_sJ, gR_sIA, Nat.reduceLeDiff, Nat.reduceEqDiff, Nat.reduceLT, Int.reduceLE, Int.reduceLT, Int.reduceEq, zWt_i, zWt_l, zWt_r, zWt_n, K, zXkk K, zXh0 K, W, zWkk W, e2] <;> omega) | omega | fail)) only [wI_id, zLc_lt, zLc_gt, zLc_eq, zLc_le, zLc_ge, Int.reduceEq, Int.reduceLE, Int.reduceLT, Int.reduceNeg, Int.reduceAdd, Int.reduceMul, Int.reduceSub, not_true_eq_false, not_false_eq_true, reduceIte, zPo_v, zPo_n, zPo_t, zKl_i, zKl_r, zKl_n, zKl_l, gK_sI, gK_sJ, gK_sR, gK_sIA, gK_sJA, gR_sI, gR_sJ, gJ_sI, gI_sJ, gI_sR, gJ_sR, gR_sIA, gJ_sIA, Nat.reduceLeDiff, Nat.reduceEqDiff, and_self, and_true, true_and, and_false, false_and, eX0_good_0, eX0_good_1, eX0_good_2, eX0_good_3, eX0_good_6, eX0_good_9, eX0_good_10, eX0_good_11, eX0_good_12, eX0_good_15, eX0_good_18, eX0_good_21, eX0_good_22, eX0_good_25, eX0_good_26, eX0_good_29, eX0_good_30, eX0_good_33, eX0_good_36, eX0_good_37, eX0_good_38, eX0_good_39, eX0_good_42, eX0_good_45, eX0_good_46, eX0_good_47, eX0_good_48, eX0_good_49, eX0_good_52, eX0_good_53, eX0_good_56, eX0_good_59, eX0_good_60, eX0_good_61, eX0_good_64, eX0_good_65, eX0_good_68, eX0_good_71, eX0_good_72, eX0_good_75, tX0_good, eX0_good_in, K, zXkk K, zXh0 K, W, zWkk W, kX0_isGood K v P, kX0_isIn, gI_sI_ne, gI_sI_eq, zU_eq]
    all_goals ((repeat' split) <;> first | exact Iff.rfl | (exfalso; omega) | (rename_i w9; rw [w9] <;> exact Iff.rfl))
theorem oM_aboard {s g : Int} (P : zMk h) (v : zIv a) : zCm mX6_aboard d [zr (some 113), zi s, zi g] (zH2 h a f) Q ↔ Q (zRv (zi (oAboard a s g).1) (zH2 (sI h 113 2 (oAboard a s g).2) a f)) := by
  have P2 : zMk (zH2 h a f) := P
  have b0 := (zIgd v).1
  have b1 := (zIgd v).2.1
  have b2 := zIports v
  have b3 := zIships v
  have e1 : 146 + 15 * s + (7 + g) = 153 + 15 * s + g := by omega
  unfold oAboard
  (repeat' split) <;> (simp (disch := (first | (simp only [gK_sI, gK_sJ, gK_sR, gK_sIA, gK_sJA, gR_sI, gR_sJ, gR_sIA, Nat.reduceLeDiff, Nat.reduceEqDiff, Nat.reduceLT, Int.reduceLE, Int.reduceLT, Int.reduceEq, zWt_i, zWt_l, zWt_r, zWt_n, zH2_gK, zH2_mk, P, zMkk P] <;> omega) | omega | fail)) only [wI_id, zLc_lt, zLc_gt, zLc_eq, zLc_le, zLc_ge, Int.reduceEq, Int.reduceLE, Int.reduceLT, Int.reduceNeg, Int.reduceAdd, Int.reduceMul, Int.reduceSub, not_true_eq_false, not_false_eq_true, reduceIte, zPo_v, zPo_n, zPo_t, zKl_i, zKl_r, zKl_n, zKl_l, gK_sI, gK_sJ, gK_sR, gK_sIA, gK_sJA, gR_sI, gR_sJ, gJ_sI, gI_sJ, gI_sR, gJ_sR, gR_sIA, gJ_sIA, Nat.reduceLeDiff, Nat.reduceEqDiff, and_self, and_true, true_and, and_false, false_and, eX6_aboard_0, eX6_aboard_1, eX6_aboard_2, eX6_aboard_5, eX6_aboard_8, eX6_aboard_9, eX6_aboard_10, eX6_aboard_13, eX6_aboard_16, eX6_aboard_17, eX6_aboard_18, eX6_aboard_19, eX6_aboard_21, eX6_aboard_22, eX6_aboard_23, eX6_aboard_26, eX6_aboard_29, eX6_aboard_32, eX6_aboard_33, eX6_aboard_34, eX6_aboard_37, eX6_aboard_in, zH2_gK, zH2_gR, zH2_at, zH2_sI, zU_ne, P, zMkk P, cM_isShip P2, cM_isGood P2, kM_shipOf P, cM_gives P2, cM_refuse P2, zH2_sIne, e1] <;> all_goals ((repeat' split) <;> first | exact Iff.rfl | (exfalso; omega) | (rename_i w9; rw [w9] <;> exact Iff.rfl)))
theorem oX_aboard {s g : Int} (K : zXk h) (v : zIv a) (P : zPw h 75 a nm) : zCm mX0_aboard d [zr (some 65), zi s, zi g] h Q ↔ Q (zRv (zi (oAboard a s g).1) (sI h 65 7 (oAboard a s g).2)) := by
  have W := P.2.1
  have b0 := (zIgd v).1
  have b1 := (zIgd v).2.1
  have b2 := zIports v
  have b3 := zIships v
  have e2 : ∀ x, zXk (sI h 65 7 x) := fun _ => K
  by_cases hc : (0 ≤ s ∧ s < a 3) ∧ (0 ≤ g ∧ g < a 1)
  · have e1 : gI h 89 (8 * s + g) = a (153 + 15 * s + g) := P.2.2.1.2.2.2.2.2.2.2.2.2.2.2 s g (by omega) (by omega) (by omega) (by omega)
    unfold oAboard
    rw [if_pos hc]
    generalize a (153 + 15 * s + g) = y at e1 ⊢
    simp (disch := (first | (simp only [gK_sI, gK_sJ, gK_sR, gK_sIA, gK_sJA, gR_sI, gR_sJ, gR_sIA, Nat.reduceLeDiff, Nat.reduceEqDiff, Nat.reduceLT, Int.reduceLE, Int.reduceLT, Int.reduceEq, zWt_i, zWt_l, zWt_r, zWt_n, K, zXkk K, zXh0 K, W, zWkk W, zWr19 W, zWk19 W, e2] <;> omega) | omega | fail)) only [if_pos, if_neg, wI_id, zLc_lt, zLc_gt, zLc_eq, zLc_le, zLc_ge, Int.reduceEq, Int.reduceLE, Int.reduceLT, Int.reduceNeg, Int.reduceAdd, Int.reduceMul, Int.reduceSub, not_true_eq_false, not_false_eq_true, reduceIte, zPo_v, zPo_n, zPo_t, zKl_i, zKl_r, zKl_n, zKl_l, gK_sI, gK_sJ, gK_sR, gK_sIA, gK_sJA, gR_sI, gR_sJ, gJ_sI, gI_sJ, gI_sR, gJ_sR, gR_sIA, gJ_sIA, Nat.reduceLeDiff, Nat.reduceEqDiff, and_self, and_true, true_and, and_false, false_and, eX0_aboard_0, eX0_aboard_1, eX0_aboard_2, eX0_aboard_3, eX0_aboard_6, eX0_aboard_9, eX0_aboard_10, eX0_aboard_11, eX0_aboard_14, eX0_aboard_17, eX0_aboard_18, eX0_aboard_21, eX0_aboard_22, eX0_aboard_25, eX0_aboard_26, eX0_aboard_29, eX0_aboard_32, eX0_aboard_33, eX0_aboard_36, eX0_aboard_37, eX0_aboard_40, eX0_aboard_43, eX0_aboard_45, eX0_aboard_46, eX0_aboard_47, eX0_aboard_48, eX0_aboard_49, eX0_aboard_50, tX0_aboard, eX0_aboard_in, K, zXkk K, zXh0 K, W, zWkk W, zWr19 W, zWk19 W, kX0_isShip K v P, kX0_isGood K v P, kX0_at, gI_sI_ne, gI_sI_eq, zU_eq, Nat.reduceAdd, e1]
    all_goals ((repeat' split) <;> first | exact Iff.rfl | (exfalso; omega) | (rename_i w9; rw [w9] <;> exact Iff.rfl))
  · unfold oAboard
    rw [if_neg hc]
    simp (disch := (first | (simp only [gK_sI, gK_sJ, gK_sR, gK_sIA, gK_sJA, gR_sI, gR_sJ, gR_sIA, Nat.reduceLeDiff, Nat.reduceEqDiff, Nat.reduceLT, Int.reduceLE, Int.reduceLT, Int.reduceEq, zWt_i, zWt_l, zWt_r, zWt_n, K, zXkk K, zXh0 K, W, zWkk W, zWr19 W, zWk19 W, e2] <;> omega) | omega | fail)) only [if_pos, if_neg, wI_id, zLc_lt, zLc_gt, zLc_eq, zLc_le, zLc_ge, Int.reduceEq, Int.reduceLE, Int.reduceLT, Int.reduceNeg, Int.reduceAdd, Int.reduceMul, Int.reduceSub, not_true_eq_false, not_false_eq_true, reduceIte, zPo_v, zPo_n, zPo_t, zKl_i, zKl_r, zKl_n, zKl_l, gK_sI, gK_sJ, gK_sR, gK_sIA, gK_sJA, gR_sI, gR_sJ, gJ_sI, gI_sJ, gI_sR, gJ_sR, gR_sIA, gJ_sIA, Nat.reduceLeDiff, Nat.reduceEqDiff, and_self, and_true, true_and, and_false, false_and, eX0_aboard_0, eX0_aboard_1, eX0_aboard_2, eX0_aboard_3, eX0_aboard_6, eX0_aboard_9, eX0_aboard_10, eX0_aboard_11, eX0_aboard_14, eX0_aboard_17, eX0_aboard_18, eX0_aboard_21, eX0_aboard_22, eX0_aboard_25, eX0_aboard_26, eX0_aboard_29, eX0_aboard_32, eX0_aboard_33, eX0_aboard_36, eX0_aboard_37, eX0_aboard_40, eX0_aboard_43, eX0_aboard_45, eX0_aboard_46, eX0_aboard_47, eX0_aboard_48, eX0_aboard_49, eX0_aboard_50, tX0_aboard, eX0_aboard_in, K, zXkk K, zXh0 K, W, zWkk W, zWr19 W, zWk19 W, kX0_isShip K v P, kX0_isGood K v P, gI_sI_ne, gI_sI_eq, zU_eq]
    all_goals ((repeat' split) <;> first | exact Iff.rfl | (exfalso; omega) | (rename_i w9; rw [w9] <;> exact Iff.rfl))
end O1
