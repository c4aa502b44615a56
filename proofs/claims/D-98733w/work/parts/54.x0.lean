/-! ===== THE COMPONENT's OWN SMALL METHODS ===== -/
set_option maxRecDepth 100000
theorem sI2 {h : zHp} {b : Nat} {j x y : Int} : sI (sI h b j x) b j y = sI h b j y := by
  show sIA (sIA h b _) b (zU (gI (sIA h b (zU (gI h b) j x)) b) j y) = sIA h b _
  rw [sIA2, gI_sIA_eq]
  congr 1
  funext k
  unfold zU
  split <;> rfl
theorem zPw_st0 {h : zHp} {a nm : Int → Int} {j x : Int} (P : zPw h 75 a nm) (K : zXk h) : zPw (sI h 65 j x) 75 a nm := by
  have kk := zXkk K
  obtain ⟨hw, W, Pn, o1, o2, o3, o4⟩ := P
  have hi : ∀ b, (gK h b).1 = 0 → b ≠ 65 → gI (sI h 65 j x) b = gI h b := fun b _ hb => gI_sI_ne hb
  have n9 : ∀ {p c : Nat}, gK h p = (0, c) → c ≠ 0 → p ≠ 65 := fun {p c} hp hc e => by
    rw [e, kk] at hp
    exact hc (congrArg Prod.snd hp).symm
  refine ⟨hw, W, ?_, ?_, ?_, ?_, ?_⟩
  · unfold zPn
    simp only [gI_sI_ne (h := h) (a := 65) (j := j) (v := x) (show (75 : Nat) ≠ 65 by decide), gI_sI_ne (h := h) (a := 65) (j := j) (v := x) (show (75 + 5 : Nat) ≠ 65 by decide), gI_sI_ne (h := h) (a := 65) (j := j) (v := x) (show (75 + 6 : Nat) ≠ 65 by decide), gI_sI_ne (h := h) (a := 65) (j := j) (v := x) (show (75 + 7 : Nat) ≠ 65 by decide), gI_sI_ne (h := h) (a := 65) (j := j) (v := x) (show (75 + 8 : Nat) ≠ 65 by decide), gI_sI_ne (h := h) (a := 65) (j := j) (v := x) (show (75 + 9 : Nat) ≠ 65 by decide), gI_sI_ne (h := h) (a := 65) (j := j) (v := x) (show (75 + 10 : Nat) ≠ 65 by decide), gI_sI_ne (h := h) (a := 65) (j := j) (v := x) (show (75 + 11 : Nat) ≠ 65 by decide), gI_sI_ne (h := h) (a := 65) (j := j) (v := x) (show (75 + 12 : Nat) ≠ 65 by decide), gI_sI_ne (h := h) (a := 65) (j := j) (v := x) (show (75 + 13 : Nat) ≠ 65 by decide), gI_sI_ne (h := h) (a := 65) (j := j) (v := x) (show (75 + 14 : Nat) ≠ 65 by decide)]
    exact Pn
  · obtain ⟨N, n1, n2, n3⟩ := o1
    refine ⟨N, n1, n2, fun k k0 k1 => ?_⟩
    obtain ⟨p, p1, p2, p3, p4, p5, p6⟩ := n3 k k0 k1
    have e := hi p (by rw [p2]) (n9 p2 (by decide))
    exact ⟨p, p1, p2, by rw [e]; exact p3, by rw [e]; exact p4, by rw [e]; exact p5, p6⟩
  · obtain ⟨N, n1, n2, n3⟩ := o2
    refine ⟨N, n1, n2, fun k k0 k1 => ?_⟩
    obtain ⟨p, p1, p2, p3, p4, p5, p6⟩ := n3 k k0 k1
    have e := hi p (by rw [p2]) (n9 p2 (by decide))
    exact ⟨p, p1, p2, by rw [e]; exact p3, by rw [e]; exact p4, by rw [e]; exact p5, p6⟩
  · obtain ⟨N, n1, n2, n3⟩ := o3
    refine ⟨N, n1, n2, fun k k0 k1 => ?_⟩
    obtain ⟨p, p1, p2, p3, p6⟩ := n3 k k0 k1
    have e := hi p (by rw [p2]) (n9 p2 (by decide))
    exact ⟨p, p1, p2, by rw [e]; exact p3, p6⟩
  · obtain ⟨N, n1, n2, n3⟩ := o4
    refine ⟨N, n1, n2, fun k k0 k1 => ?_⟩
    obtain ⟨p, p1, p2, p3, p6⟩ := n3 k k0 k1
    have e := hi p (by rw [p2]) (n9 p2 (by decide))
    exact ⟨p, p1, p2, by rw [e]; exact p3, p6⟩
theorem zPw_st {h : zHp} {a nm : Int → Int} {j x : Int} (_ : zIv a) (P : zPw h 75 a nm) (K : zXk h) : zPw (sI h 65 j x) 75 a nm := zPw_st0 P K
/-- what a call of the component that gives no more than an answer may change -/
def zSx (h h' : zHp) : Prop := h'.1 = h.1 ∧ gK h' = gK h ∧ gJ h' = gJ h ∧ (∀ b, b ≠ 92 → gR h' b = gR h b) ∧ (∀ j, 10 ≤ j → gR h' 92 j = gR h 92 j) ∧ (∀ b, b ≠ 65 → (b < 75 ∨ 112 ≤ b) → gI h' b = gI h b) ∧ ∀ j, j ≠ 7 → j ≠ 14 → j ≠ 15 → j ≠ 16 → j ≠ 20 → j ≠ 22 → gI h' 65 j = gI h 65 j
theorem zSx_rf {h : zHp} : zSx h h := ⟨rfl, rfl, rfl, fun _ _ => rfl, fun _ _ => rfl, fun _ _ _ => rfl, fun _ _ _ _ _ _ _ => rfl⟩
theorem zSx_tr {h h1 h2 : zHp} (a : zSx h h1) (b : zSx h1 h2) : zSx h h2 := ⟨b.1.trans a.1, b.2.1.trans a.2.1, b.2.2.1.trans a.2.2.1, fun c hc => (b.2.2.2.1 c hc).trans (a.2.2.2.1 c hc), fun c hc => (b.2.2.2.2.1 c hc).trans (a.2.2.2.2.1 c hc), fun c h0 h9 => (b.2.2.2.2.2.1 c h0 h9).trans (a.2.2.2.2.2.1 c h0 h9), fun j j1 j2 j3 j4 j5 j6 => (b.2.2.2.2.2.2 j j1 j2 j3 j4 j5 j6).trans (a.2.2.2.2.2.2 j j1 j2 j3 j4 j5 j6)⟩
theorem zSx_st {h h1 : zHp} {x : Int} (a : zSx h h1) : zSx h (sI h1 65 7 x) := zSx_tr a ⟨rfl, rfl, rfl, fun _ _ => rfl, fun _ _ => rfl, fun b h0 _ => gI_sI_ne h0, fun j j1 _ _ _ _ _ => by rw [gI_sI_eq, zU_ne j1]⟩
theorem zSx_w {h h1 : zHp} (a : zSw 75 h h1) : zSx h h1 := ⟨a.1, a.2.1, a.2.2.2.1, fun b _ => congrFun a.2.2.1 b, fun j _ => by rw [a.2.2.1], fun b _ h9 => a.2.2.2.2 b (by omega), fun j _ _ _ _ _ _ => by rw [a.2.2.2.2 65 (by omega)]⟩
theorem zSx_sI {h h1 : zHp} {b : Nat} {j x : Int} (a : zSx h h1) (h0 : 75 ≤ b) (h9 : b < 112) : zSx h (sI h1 b j x) := zSx_tr a ⟨rfl, rfl, rfl, fun _ _ => rfl, fun _ _ => rfl, fun c _ hc => gI_sI_ne (by omega), fun j _ _ _ _ _ _ => by rw [gI_sI_ne (by omega)]⟩
theorem zXk_w {w : Nat} {h h1 : zHp} (a : zSw w h h1) (K : zXk h) : zXk h1 := by
  unfold zXk at K ⊢
  rw [a.2.1, a.2.2.1]
  exact K
section X0
variable {d : Nat} {h : zHp} {Q : zRs → Prop} {a nm : Int → Int}
theorem kX0_at (K : zXk h) : zCm mX0_at d [zr (some 65)] h Q ↔ Q (zRv (zr (some 75)) h) := by
  simp (disch := (first | (simp only [gK_sI, gK_sJ, gK_sR, gK_sIA, gK_sJA, gR_sI, gR_sJ, gR_sIA, Nat.reduceLeDiff, Nat.reduceEqDiff, Nat.reduceLT, Int.reduceLE, Int.reduceLT, Int.reduceEq, zWt_i, zWt_l, zWt_r, zWt_n, K, zXkk K, zXr10 K, zXk10 K, zXh0 K] <;> omega) | omega | fail)) only [wI_id, zLc_lt, zLc_gt, zLc_eq, zLc_le, zLc_ge, Int.reduceEq, Int.reduceLE, Int.reduceLT, Int.reduceNeg, Int.reduceAdd, Int.reduceMul, Int.reduceSub, not_true_eq_false, not_false_eq_true, reduceIte, zPo_v, zPo_n, zPo_t, zKl_i, zKl_r, zKl_n, zKl_l, gK_sI, gK_sJ, gK_sR, gK_sIA, gK_sJA, gR_sI, gR_sJ, gJ_sI, gI_sJ, gI_sR, gJ_sR, gR_sIA, gJ_sIA, Nat.reduceLeDiff, Nat.reduceEqDiff, eX0_at_0, eX0_at_1, eX0_at_4, eX0_at_7, tX0_at, eX0_at_in, K, zXkk K, zXr10 K, zXk10 K, zXh0 K]
theorem kX0_isIn {x y z : Int} : zCm mX0_isIn d [zl x, zl y, zl z] h Q ↔ if y ≤ x ∧ x ≤ z then Q (zRv (zi 1) h) else Q (zRv (zi 0) h) := by
  simp (disch := (first | (simp only [gK_sI, gK_sJ, gK_sR, gK_sIA, gK_sJA, gR_sI, gR_sJ, gR_sIA, Nat.reduceLeDiff, Nat.reduceEqDiff, Nat.reduceLT, Int.reduceLE, Int.reduceLT, Int.reduceEq, zWt_i, zWt_l, zWt_r, zWt_n] <;> omega) | omega | fail)) only [wI_id, zLc_lt, zLc_gt, zLc_eq, zLc_le, zLc_ge, Int.reduceEq, Int.reduceLE, Int.reduceLT, Int.reduceNeg, Int.reduceAdd, Int.reduceMul, Int.reduceSub, not_true_eq_false, not_false_eq_true, reduceIte, zPo_v, zPo_n, zPo_t, zKl_i, zKl_r, zKl_n, zKl_l, gK_sI, gK_sJ, gK_sR, gK_sIA, gK_sJA, gR_sI, gR_sJ, gJ_sI, gI_sJ, gI_sR, gJ_sR, gR_sIA, gJ_sIA, Nat.reduceLeDiff, Nat.reduceEqDiff, eX0_isIn_0, eX0_isIn_1, eX0_isIn_2, eX0_isIn_3, eX0_isIn_6, eX0_isIn_7, eX0_isIn_9, eX0_isIn_10, eX0_isIn_13, eX0_isIn_14, eX0_isIn_17, eX0_isIn_18, tX0_isIn, eX0_isIn_in]
  all_goals ((repeat' split) <;> first | exact Iff.rfl | (exfalso; omega) | (rename_i w9; rw [w9] <;> exact Iff.rfl))
theorem kX0_isNation {x : Int} (K : zXk h) (v : zIv a) (P : zPw h 75 a nm) : zCm mX0_isNation d [zr (some 65), zi x] h Q ↔ if 0 ≤ x ∧ x < a 0 then Q (zRv (zi 1) h) else Q (zRv (zi 0) h) := by
  have W := P.2.1
  have e := P.2.2.1.1
  have b := (zIgd v).1
  simp (disch := (first | (simp only [gK_sI, gK_sJ, gK_sR, gK_sIA, gK_sJA, gR_sI, gR_sJ, gR_sIA, Nat.reduceLeDiff, Nat.reduceEqDiff, Nat.reduceLT, Int.reduceLE, Int.reduceLT, Int.reduceEq, zWt_i, zWt_l, zWt_r, zWt_n, K, zXkk K, zXh0 K, W, zWkk W] <;> omega) | omega | fail)) only [wI_id, zLc_lt, zLc_gt, zLc_eq, zLc_le, zLc_ge, Int.reduceEq, Int.reduceLE, Int.reduceLT, Int.reduceNeg, Int.reduceAdd, Int.reduceMul, Int.reduceSub, not_true_eq_false, not_false_eq_true, reduceIte, zPo_v, zPo_n, zPo_t, zKl_i, zKl_r, zKl_n, zKl_l, gK_sI, gK_sJ, gK_sR, gK_sIA, gK_sJA, gR_sI, gR_sJ, gJ_sI, gI_sJ, gI_sR, gJ_sR, gR_sIA, gJ_sIA, Nat.reduceLeDiff, Nat.reduceEqDiff, eX0_isNation_0, eX0_isNation_1, eX0_isNation_2, eX0_isNation_3, eX0_isNation_4, eX0_isNation_7, eX0_isNation_10, eX0_isNation_11, eX0_isNation_12, eX0_isNation_13, eX0_isNation_16, tX0_isNation, eX0_isNation_in, K, zXkk K, zXh0 K, kX0_at, kX0_isIn, e]
  all_goals ((repeat' split) <;> first | exact Iff.rfl | (exfalso; omega) | (rename_i w9; rw [w9] <;> exact Iff.rfl))
theorem kX0_isGood {x : Int} (K : zXk h) (v : zIv a) (P : zPw h 75 a nm) : zCm mX0_isGood d [zr (some 65), zi x] h Q ↔ if 0 ≤ x ∧ x < a 1 then Q (zRv (zi 1) h) else Q (zRv (zi 0) h) := by
  have W := P.2.1
  have e := P.2.2.1.2.1
  have b := (zIgd v).2.1
  simp (disch := (first | (simp only [gK_sI, gK_sJ, gK_sR, gK_sIA, gK_sJA, gR_sI, gR_sJ, gR_sIA, Nat.reduceLeDiff, Nat.reduceEqDiff, Nat.reduceLT, Int.reduceLE, Int.reduceLT, Int.reduceEq, zWt_i, zWt_l, zWt_r, zWt_n, K, zXkk K, zXh0 K, W, zWkk W] <;> omega) | omega | fail)) only [wI_id, zLc_lt, zLc_gt, zLc_eq, zLc_le, zLc_ge, Int.reduceEq, Int.reduceLE, Int.reduceLT, Int.reduceNeg, Int.reduceAdd, Int.reduceMul, Int.reduceSub, not_true_eq_false, not_false_eq_true, reduceIte, zPo_v, zPo_n, zPo_t, zKl_i, zKl_r, zKl_n, zKl_l, gK_sI, gK_sJ, gK_sR, gK_sIA, gK_sJA, gR_sI, gR_sJ, gJ_sI, gI_sJ, gI_sR, gJ_sR, gR_sIA, gJ_sIA, Nat.reduceLeDiff, Nat.reduceEqDiff, eX0_isGood_0, eX0_isGood_1, eX0_isGood_2, eX0_isGood_3, eX0_isGood_4, eX0_isGood_7, eX0_isGood_10, eX0_isGood_11, eX0_isGood_12, eX0_isGood_13, eX0_isGood_16, tX0_isGood, eX0_isGood_in, K, zXkk K, zXh0 K, kX0_at, kX0_isIn, e]
  all_goals ((repeat' split) <;> first | exact Iff.rfl | (exfalso; omega) | (rename_i w9; rw [w9] <;> exact Iff.rfl))
theorem kX0_isPort {x : Int} (K : zXk h) (v : zIv a) (P : zPw h 75 a nm) : zCm mX0_isPort d [zr (some 65), zi x] h Q ↔ if 0 ≤ x ∧ x < a 2 then Q (zRv (zi 1) h) else Q (zRv (zi 0) h) := by
  have W := P.2.1
  have e := P.2.2.1.2.2.1
  have b := zIports v
  simp (disch := (first | (simp only [gK_sI, gK_sJ, gK_sR, gK_sIA, gK_sJA, gR_sI, gR_sJ, gR_sIA, Nat.reduceLeDiff, Nat.reduceEqDiff, Nat.reduceLT, Int.reduceLE, Int.reduceLT, Int.reduceEq, zWt_i, zWt_l, zWt_r, zWt_n, K, zXkk K, zXh0 K, W, zWkk W] <;> omega) | omega | fail)) only [wI_id, zLc_lt, zLc_gt, zLc_eq, zLc_le, zLc_ge, Int.reduceEq, Int.reduceLE, Int.reduceLT, Int.reduceNeg, Int.reduceAdd, Int.reduceMul, Int.reduceSub, not_true_eq_false, not_false_eq_true, reduceIte, zPo_v, zPo_n, zPo_t, zKl_i, zKl_r, zKl_n, zKl_l, gK_sI, gK_sJ, gK_sR, gK_sIA, gK_sJA, gR_sI, gR_sJ, gJ_sI, gI_sJ, gI_sR, gJ_sR, gR_sIA, gJ_sIA, Nat.reduceLeDiff, Nat.reduceEqDiff, eX0_isPort_0, eX0_isPort_1, eX0_isPort_2, eX0_isPort_3, eX0_isPort_4, eX0_isPort_7, eX0_isPort_10, eX0_isPort_11, eX0_isPort_12, eX0_isPort_13, eX0_isPort_16, tX0_isPort, eX0_isPort_in, K, zXkk K, zXh0 K, kX0_at, kX0_isIn, e]
  all_goals ((repeat' split) <;> first | exact Iff.rfl | (exfalso; omega) | (rename_i w9; rw [w9] <;> exact Iff.rfl))
theorem kX0_isShip {x : Int} (K : zXk h) (v : zIv a) (P : zPw h 75 a nm) : zCm mX0_isShip d [zr (some 65), zi x] h Q ↔ if 0 ≤ x ∧ x < a 3 then Q (zRv (zi 1) h) else Q (zRv (zi 0) h) := by
  have W := P.2.1
  have e := P.2.2.1.2.2.2.1
  have b := zIships v
  simp (disch := (first | (simp only [gK_sI, gK_sJ, gK_sR, gK_sIA, gK_sJA, gR_sI, gR_sJ, gR_sIA, Nat.reduceLeDiff, Nat.reduceEqDiff, Nat.reduceLT, Int.reduceLE, Int.reduceLT, Int.reduceEq, zWt_i, zWt_l, zWt_r, zWt_n, K, zXkk K, zXh0 K, W, zWkk W] <;> omega) | omega | fail)) only [wI_id, zLc_lt, zLc_gt, zLc_eq, zLc_le, zLc_ge, Int.reduceEq, Int.reduceLE, Int.reduceLT, Int.reduceNeg, Int.reduceAdd, Int.reduceMul, Int.reduceSub, not_true_eq_false, not_false_eq_true, reduceIte, zPo_v, zPo_n, zPo_t, zKl_i, zKl_r, zKl_n, zKl_l, gK_sI, gK_sJ, gK_sR, gK_sIA, gK_sJA, gR_sI, gR_sJ, gJ_sI, gI_sJ, gI_sR, gJ_sR, gR_sIA, gJ_sIA, Nat.reduceLeDiff, Nat.reduceEqDiff, eX0_isShip_0, eX0_isShip_1, eX0_isShip_2, eX0_isShip_3, eX0_isShip_4, eX0_isShip_7, eX0_isShip_10, eX0_isShip_11, eX0_isShip_12, eX0_isShip_13, eX0_isShip_16, tX0_isShip, eX0_isShip_in, K, zXkk K, zXh0 K, kX0_at, kX0_isIn, e]
  all_goals ((repeat' split) <;> first | exact Iff.rfl | (exfalso; omega) | (rename_i w9; rw [w9] <;> exact Iff.rfl))
theorem kX0_isRule {x : Int} : zCm mX0_isRule d [zi x] h Q ↔ if 0 ≤ x ∧ x ≤ 2 then Q (zRv (zi 1) h) else Q (zRv (zi 0) h) := by
  simp (disch := (first | (simp only [gK_sI, gK_sJ, gK_sR, gK_sIA, gK_sJA, gR_sI, gR_sJ, gR_sIA, Nat.reduceLeDiff, Nat.reduceEqDiff, Nat.reduceLT, Int.reduceLE, Int.reduceLT, Int.reduceEq, zWt_i, zWt_l, zWt_r, zWt_n] <;> omega) | omega | fail)) only [wI_id, zLc_lt, zLc_gt, zLc_eq, zLc_le, zLc_ge, Int.reduceEq, Int.reduceLE, Int.reduceLT, Int.reduceNeg, Int.reduceAdd, Int.reduceMul, Int.reduceSub, not_true_eq_false, not_false_eq_true, reduceIte, zPo_v, zPo_n, zPo_t, zKl_i, zKl_r, zKl_n, zKl_l, gK_sI, gK_sJ, gK_sR, gK_sIA, gK_sJA, gR_sI, gR_sJ, gJ_sI, gI_sJ, gI_sR, gJ_sR, gR_sIA, gJ_sIA, Nat.reduceLeDiff, Nat.reduceEqDiff, eX0_isRule_0, eX0_isRule_1, eX0_isRule_2, eX0_isRule_3, eX0_isRule_6, eX0_isRule_9, tX0_isRule, eX0_isRule_in, kX0_isIn]
theorem kX0_areDays {x : Int} : zCm mX0_areDays d [zi x] h Q ↔ if 0 ≤ x ∧ x ≤ 99 then Q (zRv (zi 1) h) else Q (zRv (zi 0) h) := by
  simp (disch := (first | (simp only [gK_sI, gK_sJ, gK_sR, gK_sIA, gK_sJA, gR_sI, gR_sJ, gR_sIA, Nat.reduceLeDiff, Nat.reduceEqDiff, Nat.reduceLT, Int.reduceLE, Int.reduceLT, Int.reduceEq, zWt_i, zWt_l, zWt_r, zWt_n] <;> omega) | omega | fail)) only [wI_id, zLc_lt, zLc_gt, zLc_eq, zLc_le, zLc_ge, Int.reduceEq, Int.reduceLE, Int.reduceLT, Int.reduceNeg, Int.reduceAdd, Int.reduceMul, Int.reduceSub, not_true_eq_false, not_false_eq_true, reduceIte, zPo_v, zPo_n, zPo_t, zKl_i, zKl_r, zKl_n, zKl_l, gK_sI, gK_sJ, gK_sR, gK_sIA, gK_sJA, gR_sI, gR_sJ, gJ_sI, gI_sJ, gI_sR, gJ_sR, gR_sIA, gJ_sIA, Nat.reduceLeDiff, Nat.reduceEqDiff, eX0_areDays_0, eX0_areDays_1, eX0_areDays_2, eX0_areDays_3, eX0_areDays_6, eX0_areDays_9, tX0_areDays, eX0_areDays_in, kX0_isIn]
theorem kX0_areShips {x y : Int} (K : zXk h) (v : zIv a) (P : zPw h 75 a nm) : zCm mX0_areShips d [zr (some 65), zi x, zi y] h Q ↔ if (0 ≤ x ∧ x < a 3) ∧ (0 ≤ y ∧ y < a 3) ∧ x ≠ y then Q (zRv (zi 1) h) else Q (zRv (zi 0) h) := by
  simp (disch := (first | (simp only [gK_sI, gK_sJ, gK_sR, gK_sIA, gK_sJA, gR_sI, gR_sJ, gR_sIA, Nat.reduceLeDiff, Nat.reduceEqDiff, Nat.reduceLT, Int.reduceLE, Int.reduceLT, Int.reduceEq, zWt_i, zWt_l, zWt_r, zWt_n, K, zXkk K, zXh0 K] <;> omega) | omega | fail)) only [wI_id, zLc_lt, zLc_gt, zLc_eq, zLc_le, zLc_ge, Int.reduceEq, Int.reduceLE, Int.reduceLT, Int.reduceNeg, Int.reduceAdd, Int.reduceMul, Int.reduceSub, not_true_eq_false, not_false_eq_true, reduceIte, zPo_v, zPo_n, zPo_t, zKl_i, zKl_r, zKl_n, zKl_l, gK_sI, gK_sJ, gK_sR, gK_sIA, gK_sJA, gR_sI, gR_sJ, gJ_sI, gI_sJ, gI_sR, gJ_sR, gR_sIA, gJ_sIA, Nat.reduceLeDiff, Nat.reduceEqDiff, eX0_areShips_0, eX0_areShips_1, eX0_areShips_2, eX0_areShips_5, eX0_areShips_8, eX0_areShips_9, eX0_areShips_10, eX0_areShips_13, eX0_areShips_16, eX0_areShips_17, eX0_areShips_18, eX0_areShips_21, eX0_areShips_22, eX0_areShips_25, eX0_areShips_26, tX0_areShips, eX0_areShips_in, K, zXkk K, zXh0 K, kX0_isShip K v P]
  all_goals ((repeat' split) <;> first | exact Iff.rfl | (exfalso; omega) | (rename_i w9; rw [w9] <;> exact Iff.rfl))
theorem kX0_arePorts {x y : Int} (K : zXk h) (v : zIv a) (P : zPw h 75 a nm) : zCm mX0_arePorts d [zr (some 65), zi x, zi y] h Q ↔ if (0 ≤ x ∧ x < a 2) ∧ (0 ≤ y ∧ y < a 2) ∧ x ≠ y then Q (zRv (zi 1) h) else Q (zRv (zi 0) h) := by
  simp (disch := (first | (simp only [gK_sI, gK_sJ, gK_sR, gK_sIA, gK_sJA, gR_sI, gR_sJ, gR_sIA, Nat.reduceLeDiff, Nat.reduceEqDiff, Nat.reduceLT, Int.reduceLE, Int.reduceLT, Int.reduceEq, zWt_i, zWt_l, zWt_r, zWt_n, K, zXkk K, zXh0 K] <;> omega) | omega | fail)) only [wI_id, zLc_lt, zLc_gt, zLc_eq, zLc_le, zLc_ge, Int.reduceEq, Int.reduceLE, Int.reduceLT, Int.reduceNeg, Int.reduceAdd, Int.reduceMul, Int.reduceSub, not_true_eq_false, not_false_eq_true, reduceIte, zPo_v, zPo_n, zPo_t, zKl_i, zKl_r, zKl_n, zKl_l, gK_sI, gK_sJ, gK_sR, gK_sIA, gK_sJA, gR_sI, gR_sJ, gJ_sI, gI_sJ, gI_sR, gJ_sR, gR_sIA, gJ_sIA, Nat.reduceLeDiff, Nat.reduceEqDiff, eX0_arePorts_0, eX0_arePorts_1, eX0_arePorts_2, eX0_arePorts_5, eX0_arePorts_8, eX0_arePorts_9, eX0_arePorts_10, eX0_arePorts_13, eX0_arePorts_16, eX0_arePorts_17, eX0_arePorts_18, eX0_arePorts_21, eX0_arePorts_22, eX0_arePorts_25, eX0_arePorts_26, tX0_arePorts, eX0_arePorts_in, K, zXkk K, zXh0 K, kX0_isPort K v P]
  all_goals ((repeat' split) <;> first | exact Iff.rfl | (exfalso; omega) | (rename_i w9; rw [w9] <;> exact Iff.rfl))
theorem kX0_isLoad {s g n : Int} (K : zXk h) (v : zIv a) (P : zPw h 75 a nm) : zCm mX0_isLoad d [zr (some 65), zi s, zi g, zi n] h Q ↔ if (0 ≤ s ∧ s < a 3) ∧ (0 ≤ g ∧ g < a 1) ∧ (1 ≤ n ∧ n ≤ 60) then Q (zRv (zi 1) h) else Q (zRv (zi 0) h) := by
  simp (disch := (first | (simp only [gK_sI, gK_sJ, gK_sR, gK_sIA, gK_sJA, gR_sI, gR_sJ, gR_sIA, Nat.reduceLeDiff, Nat.reduceEqDiff, Nat.reduceLT, Int.reduceLE, Int.reduceLT, Int.reduceEq, zWt_i, zWt_l, zWt_r, zWt_n, K, zXkk K, zXh0 K] <;> omega) | omega | fail)) only [wI_id, zLc_lt, zLc_gt, zLc_eq, zLc_le, zLc_ge, Int.reduceEq, Int.reduceLE, Int.reduceLT, Int.reduceNeg, Int.reduceAdd, Int.reduceMul, Int.reduceSub, not_true_eq_false, not_false_eq_true, reduceIte, zPo_v, zPo_n, zPo_t, zKl_i, zKl_r, zKl_n, zKl_l, gK_sI, gK_sJ, gK_sR, gK_sIA, gK_sJA, gR_sI, gR_sJ, gJ_sI, gI_sJ, gI_sR, gJ_sR, gR_sIA, gJ_sIA, Nat.reduceLeDiff, Nat.reduceEqDiff, eX0_isLoad_0, eX0_isLoad_1, eX0_isLoad_2, eX0_isLoad_5, eX0_isLoad_8, eX0_isLoad_9, eX0_isLoad_10, eX0_isLoad_13, eX0_isLoad_16, eX0_isLoad_17, eX0_isLoad_18, eX0_isLoad_19, eX0_isLoad_22, eX0_isLoad_25, eX0_isLoad_28, eX0_isLoad_29, eX0_isLoad_32, eX0_isLoad_33, tX0_isLoad, eX0_isLoad_in, K, zXkk K, zXh0 K, kX0_isShip K v P, kX0_isGood K v P, kX0_isIn]
  all_goals ((repeat' split) <;> first | exact Iff.rfl | (exfalso; omega) | (rename_i w9; rw [w9] <;> exact Iff.rfl))
theorem kX0_answer {x : Int} (K : zXk h) : zCm mX0_answer d [zr (some 65), zi x] h Q ↔ if x < 0 then Q (zRv (zi x) (sI h 65 7 6)) else Q (zRv (zi x) (sI h 65 7 0)) := by
  simp (disch := (first | (simp only [gK_sI, gK_sJ, gK_sR, gK_sIA, gK_sJA, gR_sI, gR_sJ, gR_sIA, Nat.reduceLeDiff, Nat.reduceEqDiff, Nat.reduceLT, Int.reduceLE, Int.reduceLT, Int.reduceEq, zWt_i, zWt_l, zWt_r, zWt_n, K, zXkk K, zXh0 K] <;> omega) | omega | fail)) only [wI_id, zLc_lt, zLc_gt, zLc_eq, zLc_le, zLc_ge, Int.reduceEq, Int.reduceLE, Int.reduceLT, Int.reduceNeg, Int.reduceAdd, Int.reduceMul, Int.reduceSub, not_true_eq_false, not_false_eq_true, reduceIte, zPo_v, zPo_n, zPo_t, zKl_i, zKl_r, zKl_n, zKl_l, gK_sI, gK_sJ, gK_sR, gK_sIA, gK_sJA, gR_sI, gR_sJ, gJ_sI, gI_sJ, gI_sR, gJ_sR, gR_sIA, gJ_sIA, Nat.reduceLeDiff, Nat.reduceEqDiff, eX0_answer_0, eX0_answer_1, eX0_answer_2, eX0_answer_5, eX0_answer_7, eX0_answer_10, eX0_answer_11, eX0_answer_14, eX0_answer_15, tX0_answer, eX0_answer_in, K, zXkk K, zXh0 K]
  all_goals ((repeat' split) <;> first | exact Iff.rfl | (exfalso; omega) | (rename_i w9; rw [w9] <;> exact Iff.rfl))
end X0
