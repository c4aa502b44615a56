/-! ===== OPERATIONS, 2: flags ===== -/
set_option maxRecDepth 100000
theorem zFm {h : zHp} {Q : zRs → Prop} {a : Int → Int} {x st : Int} {o : Int × Int} (hQ : ∀ g, Q (zRv (zi o.1) (zH2 (sI h 113 2 o.2) a g))) (e : o = (x, st)) (g : Int → Int) : Q (zRv (zi x) (zH2 (sI h 113 2 st) a g)) := by
  subst e
  exact hQ g
theorem zFx {h h1 : zHp} {Q : zRs → Prop} {a nm : Int → Int} {x st : Int} {o : Int × Int} (hQ : ∀ h', zPw h' 75 a nm → zSx h h' → gI h' 65 7 = o.2 → Q (zRv (zi o.1) h')) (P : zPw h1 75 a nm) (S : zSx h h1) (hs : gI h1 65 7 = st) (e : o = (x, st)) : Q (zRv (zi x) h1) := by
  subst e
  exact hQ h1 P S hs
theorem zFxs {h h1 : zHp} {Q : zRs → Prop} {a nm : Int → Int} {x st : Int} {o : Int × Int} (hQ : ∀ h', zPw h' 75 a nm → zSx h h' → gI h' 65 7 = o.2 → Q (zRv (zi o.1) h')) (v : zIv a) (K : zXk h1) (P : zPw h1 75 a nm) (S : zSx h h1) (e : o = (x, st)) : Q (zRv (zi x) (sI h1 65 7 st)) :=
  zFx hQ (zPw_st v P K) (zSx_st S) (by rw [gI_sI_eq, zU_eq]) e
theorem zSw65 {w : Nat} {h h1 : zHp} (S : zSw w h h1) (hw : 65 < w) : gI h1 65 = gI h 65 := S.2.2.2.2 65 (Or.inl hw)
def oWeightBy (a : Int → Int) (s n y : Int) : Int × Int := if (0 ≤ s ∧ s < a 3) ∧ (0 ≤ n ∧ n < a 0) ∧ (0 ≤ y ∧ y ≤ 2) then (fW a (fLd a s) n y, 0) else (-1, 1)
def oWeight (a : Int → Int) (s n : Int) : Int × Int := oWeightBy a s n (a 4)
def oCaptains (a : Int → Int) (s : Int) : Int × Int := if 0 ≤ s ∧ s < a 3 then (fCap a (fLd a s) (a 4), 0) else (-1, 1)
def oRuledBy (a : Int → Int) (s y : Int) : Int × Int := if (0 ≤ s ∧ s < a 3) ∧ (0 ≤ y ∧ y ≤ 2) then (if fOne (fCap a (fLd a s) y) = -1 then (-1, 6) else (fOne (fCap a (fLd a s) y), 0)) else (-1, 1)
def oRuled (a : Int → Int) (s : Int) : Int × Int := oRuledBy a s (a 4)
section O2
variable {d : Nat} {h : zHp} {Q : zRs → Prop} {a f nm : Int → Int}
theorem kM_loads {s : Int} (P : zMk h) (h0 : 0 ≤ s) (h1 : s < 4) (hQ : ∀ g, zEq8 g (fLd a s) → Q (zRn (zH2 h a g))) : zCm mX6_loads d [zr (some 113), zi s] (zH2 h a f) Q := by
  refine cM_loads' (zH2_mk.mpr P) h0 h1 (fun g hg => ?_)
  rw [zH2_at] at hg
  rw [zH2_sld]
  exact hQ g hg
theorem kM_captainsOf {s y : Int} (P : zMk h) (v : zIv a) (h0 : 0 ≤ s) (h1 : s < 4) (hQ : ∀ g, Q (zRv (zi (fCap a (fLd a s) y)) (zH2 h a g))) : zCm mX6_captainsOf d [zr (some 113), zi s, zi y] (zH2 h a f) Q := by
  refine cM_captainsOf (zH2_mk.mpr P) (by rw [zH2_at]; exact zIgd v) (by rw [zH2_at]; exact zLd_iv v h0 h1) h0 h1 (fun g => ?_)
  rw [zH2_at, zH2_sld]
  exact hQ g
theorem kM_weightOf {s n y : Int} {g : Int → Int} (P : zMk h) (v : zIv a) (h0 : 0 ≤ s) (h1 : s < 4) (hg : zEq8 g (fLd a s)) : zCm mX6_weightOf d [zr (some 113), zi n, zi y] (zH2 h a g) Q ↔ Q (zRv (zi (fW a (fLd a s) n y)) (zH2 h a g)) := by
  rw [cM_weightOf (zH2_mk.mpr P) (by rw [zH2_at]; exact zIgd v) (by rw [zH2_ld]; exact zLd_congr hg (zLd_iv v h0 h1)), zH2_at, zH2_ld, fW_congr (zIgd v).2.1.2 hg]
theorem oM_weightBy {s n y : Int} (P : zMk h) (v : zIv a) (hQ : ∀ k9, Q (zRv (zi (oWeightBy a s n y).1) (zH2 (sI h 113 2 (oWeightBy a s n y).2) a k9))) : zCm mX6_weightBy d [zr (some 113), zi s, zi n, zi y] (zH2 h a f) Q := by
  have P2 : ∀ a f, zMk (zH2 h a f) := fun _ _ => P
  have P3 : ∀ a f x, zMk (zH2 (sI h 113 2 x) a f) := fun _ _ _ => P
  have b0 := (zIgd v).1
  have b1 := (zIgd v).2.1
  have b2 := zIports v
  have b3 := zIships v
  have b4 := zIrule v
  by_cases hc : (0 ≤ s ∧ s < a 3) ∧ (0 ≤ n ∧ n < a 0) ∧ (0 ≤ y ∧ y ≤ 2)
  · have e : oWeightBy a s n y = (fW a (fLd a s) n y, 0) := if_pos hc
    simp (disch := (first | (simp only [gK_sI, gK_sJ, gK_sR, gK_sIA, gK_sJA, gR_sI, gR_sJ, gR_sIA, Nat.reduceLeDiff, Nat.reduceEqDiff, Nat.reduceLT, Int.reduceLE, Int.reduceLT, Int.reduceEq, zWt_i, zWt_l, zWt_r, zWt_n, zH2_gK, zH2_mk, P, zMkk P] <;> omega) | omega | fail)) only [if_pos, if_neg, wI_id, zLc_lt, zLc_gt, zLc_eq, zLc_le, zLc_ge, Int.reduceEq, Int.reduceLE, Int.reduceLT, Int.reduceNeg, Int.reduceAdd, Int.reduceMul, Int.reduceSub, not_true_eq_false, not_false_eq_true, reduceIte, zPo_v, zPo_n, zPo_t, zKl_i, zKl_r, zKl_n, zKl_l, gK_sI, gK_sJ, gK_sR, gK_sIA, gK_sJA, gR_sI, gR_sJ, gJ_sI, gI_sJ, gI_sR, gJ_sR, gR_sIA, gJ_sIA, Nat.reduceLeDiff, Nat.reduceEqDiff, and_self, and_true, true_and, and_false, false_and, eX6_weightBy_0, eX6_weightBy_1, eX6_weightBy_2, eX6_weightBy_5, eX6_weightBy_8, eX6_weightBy_9, eX6_weightBy_10, eX6_weightBy_13, eX6_weightBy_16, eX6_weightBy_17, eX6_weightBy_20, eX6_weightBy_23, eX6_weightBy_24, eX6_weightBy_25, eX6_weightBy_28, eX6_weightBy_29, eX6_weightBy_30, eX6_weightBy_31, eX6_weightBy_34, eX6_weightBy_35, eX6_weightBy_36, eX6_weightBy_37, eX6_weightBy_38, eX6_weightBy_41, eX6_weightBy_44, eX6_weightBy_in, zH2_gK, zH2_gR, zH2_at, zH2_sI, zU_ne, P, zMkk P, cM_isShip (P2 _ _), cM_isNation (P2 _ _), cM_isRule]
    refine kM_loads P hc.1.1 (by omega) (fun g hg => ?_)
    simp (disch := (first | (simp only [gK_sI, gK_sJ, gK_sR, gK_sIA, gK_sJA, gR_sI, gR_sJ, gR_sIA, Nat.reduceLeDiff, Nat.reduceEqDiff, Nat.reduceLT, Int.reduceLE, Int.reduceLT, Int.reduceEq, zWt_i, zWt_l, zWt_r, zWt_n, zH2_gK, zH2_mk, P, zMkk P] <;> omega) | omega | fail)) only [if_pos, if_neg, wI_id, zLc_lt, zLc_gt, zLc_eq, zLc_le, zLc_ge, Int.reduceEq, Int.reduceLE, Int.reduceLT, Int.reduceNeg, Int.reduceAdd, Int.reduceMul, Int.reduceSub, not_true_eq_false, not_false_eq_true, reduceIte, zPo_v, zPo_n, zPo_t, zKl_i, zKl_r, zKl_n, zKl_l, gK_sI, gK_sJ, gK_sR, gK_sIA, gK_sJA, gR_sI, gR_sJ, gJ_sI, gI_sJ, gI_sR, gJ_sR, gR_sIA, gJ_sIA, Nat.reduceLeDiff, Nat.reduceEqDiff, and_self, and_true, true_and, and_false, false_and, eX6_weightBy_0, eX6_weightBy_1, eX6_weightBy_2, eX6_weightBy_5, eX6_weightBy_8, eX6_weightBy_9, eX6_weightBy_10, eX6_weightBy_13, eX6_weightBy_16, eX6_weightBy_17, eX6_weightBy_20, eX6_weightBy_23, eX6_weightBy_24, eX6_weightBy_25, eX6_weightBy_28, eX6_weightBy_29, eX6_weightBy_30, eX6_weightBy_31, eX6_weightBy_34, eX6_weightBy_35, eX6_weightBy_36, eX6_weightBy_37, eX6_weightBy_38, eX6_weightBy_41, eX6_weightBy_44, eX6_weightBy_in, zH2_gK, zH2_gR, zH2_at, zH2_sI, zU_ne, P, zMkk P, kM_weightOf P v hc.1.1 (show s < 4 by omega) hg, cM_gives (P2 _ _), zH2_sIne]
    exact zFm hQ e g
  · have e : oWeightBy a s n y = (-1, 1) := if_neg hc
    have h9 := zFm hQ e f
    simp (disch := (first | (simp only [gK_sI, gK_sJ, gK_sR, gK_sIA, gK_sJA, gR_sI, gR_sJ, gR_sIA, Nat.reduceLeDiff, Nat.reduceEqDiff, Nat.reduceLT, Int.reduceLE, Int.reduceLT, Int.reduceEq, zWt_i, zWt_l, zWt_r, zWt_n, zH2_gK, zH2_mk, P, zMkk P] <;> omega) | omega | fail)) only [wI_id, zLc_lt, zLc_gt, zLc_eq, zLc_le, zLc_ge, Int.reduceEq, Int.reduceLE, Int.reduceLT, Int.reduceNeg, Int.reduceAdd, Int.reduceMul, Int.reduceSub, not_true_eq_false, not_false_eq_true, reduceIte, zPo_v, zPo_n, zPo_t, zKl_i, zKl_r, zKl_n, zKl_l, gK_sI, gK_sJ, gK_sR, gK_sIA, gK_sJA, gR_sI, gR_sJ, gJ_sI, gI_sJ, gI_sR, gJ_sR, gR_sIA, gJ_sIA, Nat.reduceLeDiff, Nat.reduceEqDiff, and_self, and_true, true_and, and_false, false_and, eX6_weightBy_0, eX6_weightBy_1, eX6_weightBy_2, eX6_weightBy_5, eX6_weightBy_8, eX6_weightBy_9, eX6_weightBy_10, eX6_weightBy_13, eX6_weightBy_16, eX6_weightBy_17, eX6_weightBy_20, eX6_weightBy_23, eX6_weightBy_24, eX6_weightBy_25, eX6_weightBy_28, eX6_weightBy_29, eX6_weightBy_30, eX6_weightBy_31, eX6_weightBy_34, eX6_weightBy_35, eX6_weightBy_36, eX6_weightBy_37, eX6_weightBy_38, eX6_weightBy_41, eX6_weightBy_44, eX6_weightBy_in, zH2_gK, zH2_gR, zH2_at, zH2_sI, zU_ne, P, zMkk P, cM_isShip (P2 _ _), cM_isNation (P2 _ _), cM_isRule, cM_refuse (P2 _ _), zH2_sIne]
    (repeat' split) <;> first | exact h9 | (exfalso; omega)
theorem oM_weight {s n : Int} (P : zMk h) (v : zIv a) (hQ : ∀ k9, Q (zRv (zi (oWeight a s n).1) (zH2 (sI h 113 2 (oWeight a s n).2) a k9))) : zCm mX6_weight d [zr (some 113), zi s, zi n] (zH2 h a f) Q := by
  have P2 : ∀ a f, zMk (zH2 h a f) := fun _ _ => P
  have P3 : ∀ a f x, zMk (zH2 (sI h 113 2 x) a f) := fun _ _ _ => P
  have b0 := (zIgd v).1
  have b1 := (zIgd v).2.1
  have b2 := zIports v
  have b3 := zIships v
  have b4 := zIrule v
  simp (disch := (first | (simp only [gK_sI, gK_sJ, gK_sR, gK_sIA, gK_sJA, gR_sI, gR_sJ, gR_sIA, Nat.reduceLeDiff, Nat.reduceEqDiff, Nat.reduceLT, Int.reduceLE, Int.reduceLT, Int.reduceEq, zWt_i, zWt_l, zWt_r, zWt_n, zH2_gK, zH2_mk, P, zMkk P, zMr0 P, zMk0 P] <;> omega) | omega | fail)) only [if_pos, if_neg, wI_id, zLc_lt, zLc_gt, zLc_eq, zLc_le, zLc_ge, Int.reduceEq, Int.reduceLE, Int.reduceLT, Int.reduceNeg, Int.reduceAdd, Int.reduceMul, Int.reduceSub, not_true_eq_false, not_false_eq_true, reduceIte, zPo_v, zPo_n, zPo_t, zKl_i, zKl_r, zKl_n, zKl_l, gK_sI, gK_sJ, gK_sR, gK_sIA, gK_sJA, gR_sI, gR_sJ, gJ_sI, gI_sJ, gI_sR, gJ_sR, gR_sIA, gJ_sIA, Nat.reduceLeDiff, Nat.reduceEqDiff, and_self, and_true, true_and, and_false, false_and, eX6_weight_0, eX6_weight_1, eX6_weight_2, eX6_weight_3, eX6_weight_4, eX6_weight_7, eX6_weight_8, eX6_weight_9, eX6_weight_12, eX6_weight_in, zH2_gK, zH2_gR, zH2_at, zH2_sI, zU_ne, P, zMkk P, zMr0 P, zMk0 P]
  refine oM_weightBy P v (fun g => ?_)
  simp (disch := (first | (simp only [gK_sI, gK_sJ, gK_sR, gK_sIA, gK_sJA, gR_sI, gR_sJ, gR_sIA, Nat.reduceLeDiff, Nat.reduceEqDiff, Nat.reduceLT, Int.reduceLE, Int.reduceLT, Int.reduceEq, zWt_i, zWt_l, zWt_r, zWt_n] <;> omega) | omega | fail)) only [if_pos, if_neg, wI_id, zLc_lt, zLc_gt, zLc_eq, zLc_le, zLc_ge, Int.reduceEq, Int.reduceLE, Int.reduceLT, Int.reduceNeg, Int.reduceAdd, Int.reduceMul, Int.reduceSub, not_true_eq_false, not_false_eq_true, reduceIte, zPo_v, zPo_n, zPo_t, zKl_i, zKl_r, zKl_n, zKl_l, gK_sI, gK_sJ, gK_sR, gK_sIA, gK_sJA, gR_sI, gR_sJ, gJ_sI, gI_sJ, gI_sR, gJ_sR, gR_sIA, gJ_sIA, Nat.reduceLeDiff, Nat.reduceEqDiff, and_self, and_true, true_and, and_false, false_and, eX6_weight_0, eX6_weight_1, eX6_weight_2, eX6_weight_3, eX6_weight_4, eX6_weight_7, eX6_weight_8, eX6_weight_9, eX6_weight_12, eX6_weight_in]
  exact hQ g
theorem oM_captains {s : Int} (P : zMk h) (v : zIv a) (hQ : ∀ k9, Q (zRv (zi (oCaptains a s).1) (zH2 (sI h 113 2 (oCaptains a s).2) a k9))) : zCm mX6_captains d [zr (some 113), zi s] (zH2 h a f) Q := by
  have P2 : ∀ a f, zMk (zH2 h a f) := fun _ _ => P
  have P3 : ∀ a f x, zMk (zH2 (sI h 113 2 x) a f) := fun _ _ _ => P
  have b0 := (zIgd v).1
  have b1 := (zIgd v).2.1
  have b2 := zIports v
  have b3 := zIships v
  have b4 := zIrule v
  by_cases hc : 0 ≤ s ∧ s < a 3
  · have e : oCaptains a s = (fCap a (fLd a s) (a 4), 0) := if_pos hc
    simp (disch := (first | (simp only [gK_sI, gK_sJ, gK_sR, gK_sIA, gK_sJA, gR_sI, gR_sJ, gR_sIA, Nat.reduceLeDiff, Nat.reduceEqDiff, Nat.reduceLT, Int.reduceLE, Int.reduceLT, Int.reduceEq, zWt_i, zWt_l, zWt_r, zWt_n, zH2_gK, zH2_mk, P, zMkk P, zMr0 P, zMk0 P] <;> omega) | omega | fail)) only [if_pos, if_neg, wI_id, zLc_lt, zLc_gt, zLc_eq, zLc_le, zLc_ge, Int.reduceEq, Int.reduceLE, Int.reduceLT, Int.reduceNeg, Int.reduceAdd, Int.reduceMul, Int.reduceSub, not_true_eq_false, not_false_eq_true, reduceIte, zPo_v, zPo_n, zPo_t, zKl_i, zKl_r, zKl_n, zKl_l, gK_sI, gK_sJ, gK_sR, gK_sIA, gK_sJA, gR_sI, gR_sJ, gJ_sI, gI_sJ, gI_sR, gJ_sR, gR_sIA, gJ_sIA, Nat.reduceLeDiff, Nat.reduceEqDiff, and_self, and_true, true_and, and_false, false_and, eX6_captains_0, eX6_captains_1, eX6_captains_2, eX6_captains_5, eX6_captains_8, eX6_captains_9, eX6_captains_10, eX6_captains_11, eX6_captains_12, eX6_captains_15, eX6_captains_16, eX6_captains_17, eX6_captains_20, eX6_captains_23, eX6_captains_26, eX6_captains_27, eX6_captains_28, eX6_captains_31, eX6_captains_in, zH2_gK, zH2_gR, zH2_at, zH2_sI, zU_ne, P, zMkk P, zMr0 P, zMk0 P, cM_isShip (P2 _ _)]
    refine kM_captainsOf P v hc.1 (by omega) (fun g => ?_)
    simp (disch := (first | (simp only [gK_sI, gK_sJ, gK_sR, gK_sIA, gK_sJA, gR_sI, gR_sJ, gR_sIA, Nat.reduceLeDiff, Nat.reduceEqDiff, Nat.reduceLT, Int.reduceLE, Int.reduceLT, Int.reduceEq, zWt_i, zWt_l, zWt_r, zWt_n, zH2_gK, zH2_mk, P, zMkk P, zMr0 P, zMk0 P] <;> omega) | omega | fail)) only [if_pos, if_neg, wI_id, zLc_lt, zLc_gt, zLc_eq, zLc_le, zLc_ge, Int.reduceEq, Int.reduceLE, Int.reduceLT, Int.reduceNeg, Int.reduceAdd, Int.reduceMul, Int.reduceSub, not_true_eq_false, not_false_eq_true, reduceIte, zPo_v, zPo_n, zPo_t, zKl_i, zKl_r, zKl_n, zKl_l, gK_sI, gK_sJ, gK_sR, gK_sIA, gK_sJA, gR_sI, gR_sJ, gJ_sI, gI_sJ, gI_sR, gJ_sR, gR_sIA, gJ_sIA, Nat.reduceLeDiff, Nat.reduceEqDiff, and_self, and_true, true_and, and_false, false_and, eX6_captains_0, eX6_captains_1, eX6_captains_2, eX6_captains_5, eX6_captains_8, eX6_captains_9, eX6_captains_10, eX6_captains_11, eX6_captains_12, eX6_captains_15, eX6_captains_16, eX6_captains_17, eX6_captains_20, eX6_captains_23, eX6_captains_26, eX6_captains_27, eX6_captains_28, eX6_captains_31, eX6_captains_in, zH2_gK, zH2_gR, zH2_at, zH2_sI, zU_ne, P, zMkk P, zMr0 P, zMk0 P, cM_gives (P2 _ _), zH2_sIne]
    exact zFm hQ e g
  · have e : oCaptains a s = (-1, 1) := if_neg hc
    have h9 := zFm hQ e f
    simp (disch := (first | (simp only [gK_sI, gK_sJ, gK_sR, gK_sIA, gK_sJA, gR_sI, gR_sJ, gR_sIA, Nat.reduceLeDiff, Nat.reduceEqDiff, Nat.reduceLT, Int.reduceLE, Int.reduceLT, Int.reduceEq, zWt_i, zWt_l, zWt_r, zWt_n, zH2_gK, zH2_mk, P, zMkk P, zMr0 P, zMk0 P] <;> omega) | omega | fail)) only [if_pos, if_neg, wI_id, zLc_lt, zLc_gt, zLc_eq, zLc_le, zLc_ge, Int.reduceEq, Int.reduceLE, Int.reduceLT, Int.reduceNeg, Int.reduceAdd, Int.reduceMul, Int.reduceSub, not_true_eq_false, not_false_eq_true, reduceIte, zPo_v, zPo_n, zPo_t, zKl_i, zKl_r, zKl_n, zKl_l, gK_sI, gK_sJ, gK_sR, gK_sIA, gK_sJA, gR_sI, gR_sJ, gJ_sI, gI_sJ, gI_sR, gJ_sR, gR_sIA, gJ_sIA, Nat.reduceLeDiff, Nat.reduceEqDiff, and_self, and_true, true_and, and_false, false_and, eX6_captains_0, eX6_captains_1, eX6_captains_2, eX6_captains_5, eX6_captains_8, eX6_captains_9, eX6_captains_10, eX6_captains_11, eX6_captains_12, eX6_captains_15, eX6_captains_16, eX6_captains_17, eX6_captains_20, eX6_captains_23, eX6_captains_26, eX6_captains_27, eX6_captains_28, eX6_captains_31, eX6_captains_in, zH2_gK, zH2_gR, zH2_at, zH2_sI, zU_ne, P, zMkk P, zMr0 P, zMk0 P, cM_isShip (P2 _ _), cM_refuse (P2 _ _), zH2_sIne]
    (repeat' split) <;> first | exact h9 | (exfalso; omega)
theorem oM_ruledBy {s y : Int} (P : zMk h) (v : zIv a) (hQ : ∀ k9, Q (zRv (zi (oRuledBy a s y).1) (zH2 (sI h 113 2 (oRuledBy a s y).2) a k9))) : zCm mX6_ruledBy d [zr (some 113), zi s, zi y] (zH2 h a f) Q := by
  have P2 : ∀ a f, zMk (zH2 h a f) := fun _ _ => P
  have P3 : ∀ a f x, zMk (zH2 (sI h 113 2 x) a f) := fun _ _ _ => P
  have b0 := (zIgd v).1
  have b1 := (zIgd v).2.1
  have b2 := zIports v
  have b3 := zIships v
  have b4 := zIrule v
  by_cases hc : (0 ≤ s ∧ s < a 3) ∧ (0 ≤ y ∧ y ≤ 2)
  · have e : oRuledBy a s y = (if fOne (fCap a (fLd a s) y) = -1 then (-1, 6) else (fOne (fCap a (fLd a s) y), 0)) := if_pos hc
    have hb := fCap_b (ld := fLd a s) (by9 := y) (zIgd v)
    simp (disch := (first | (simp only [gK_sI, gK_sJ, gK_sR, gK_sIA, gK_sJA, gR_sI, gR_sJ, gR_sIA, Nat.reduceLeDiff, Nat.reduceEqDiff, Nat.reduceLT, Int.reduceLE, Int.reduceLT, Int.reduceEq, zWt_i, zWt_l, zWt_r, zWt_n, zH2_gK, zH2_mk, P, zMkk P] <;> omega) | omega | fail)) only [if_pos, if_neg, wI_id, zLc_lt, zLc_gt, zLc_eq, zLc_le, zLc_ge, Int.reduceEq, Int.reduceLE, Int.reduceLT, Int.reduceNeg, Int.reduceAdd, Int.reduceMul, Int.reduceSub, not_true_eq_false, not_false_eq_true, reduceIte, zPo_v, zPo_n, zPo_t, zKl_i, zKl_r, zKl_n, zKl_l, gK_sI, gK_sJ, gK_sR, gK_sIA, gK_sJA, gR_sI, gR_sJ, gJ_sI, gI_sJ, gI_sR, gJ_sR, gR_sIA, gJ_sIA, Nat.reduceLeDiff, Nat.reduceEqDiff, and_self, and_true, true_and, and_false, false_and, eX6_ruledBy_0, eX6_ruledBy_1, eX6_ruledBy_2, eX6_ruledBy_5, eX6_ruledBy_8, eX6_ruledBy_9, eX6_ruledBy_12, eX6_ruledBy_15, eX6_ruledBy_16, eX6_ruledBy_17, eX6_ruledBy_18, eX6_ruledBy_19, eX6_ruledBy_22, eX6_ruledBy_25, eX6_ruledBy_28, eX6_ruledBy_31, eX6_ruledBy_32, eX6_ruledBy_33, eX6_ruledBy_36, eX6_ruledBy_in, zH2_gK, zH2_gR, zH2_at, zH2_sI, zU_ne, P, zMkk P, cM_isShip (P2 _ _), cM_isRule]
    refine kM_captainsOf P v hc.1.1 (by omega) (fun g => ?_)
    simp (disch := (first | (simp only [gK_sI, gK_sJ, gK_sR, gK_sIA, gK_sJA, gR_sI, gR_sJ, gR_sIA, Nat.reduceLeDiff, Nat.reduceEqDiff, Nat.reduceLT, Int.reduceLE, Int.reduceLT, Int.reduceEq, zWt_i, zWt_l, zWt_r, zWt_n, zH2_gK, zH2_mk, P, zMkk P] <;> omega) | omega | fail)) only [if_pos, if_neg, wI_id, zLc_lt, zLc_gt, zLc_eq, zLc_le, zLc_ge, Int.reduceEq, Int.reduceLE, Int.reduceLT, Int.reduceNeg, Int.reduceAdd, Int.reduceMul, Int.reduceSub, not_true_eq_false, not_false_eq_true, reduceIte, zPo_v, zPo_n, zPo_t, zKl_i, zKl_r, zKl_n, zKl_l, gK_sI, gK_sJ, gK_sR, gK_sIA, gK_sJA, gR_sI, gR_sJ, gJ_sI, gI_sJ, gI_sR, gJ_sR, gR_sIA, gJ_sIA, Nat.reduceLeDiff, Nat.reduceEqDiff, and_self, and_true, true_and, and_false, false_and, eX6_ruledBy_0, eX6_ruledBy_1, eX6_ruledBy_2, eX6_ruledBy_5, eX6_ruledBy_8, eX6_ruledBy_9, eX6_ruledBy_12, eX6_ruledBy_15, eX6_ruledBy_16, eX6_ruledBy_17, eX6_ruledBy_18, eX6_ruledBy_19, eX6_ruledBy_22, eX6_ruledBy_25, eX6_ruledBy_28, eX6_ruledBy_31, eX6_ruledBy_32, eX6_ruledBy_33, eX6_ruledBy_36, eX6_ruledBy_in, zH2_gK, zH2_gR, zH2_at, zH2_sI, zU_ne, P, zMkk P, cM_onlyOne hb.1 hb.2, cM_orNone (P2 _ _), zH2_sIne]
    split
    · exact zFm hQ (by rw [e, if_pos ‹_›]) g
    · exact zFm hQ (by rw [e, if_neg ‹_›]) g
  · have e : oRuledBy a s y = (-1, 1) := if_neg hc
    have h9 := zFm hQ e f
    simp (disch := (first | (simp only [gK_sI, gK_sJ, gK_sR, gK_sIA, gK_sJA, gR_sI, gR_sJ, gR_sIA, Nat.reduceLeDiff, Nat.reduceEqDiff, Nat.reduceLT, Int.reduceLE, Int.reduceLT, Int.reduceEq, zWt_i, zWt_l, zWt_r, zWt_n, zH2_gK, zH2_mk, P, zMkk P] <;> omega) | omega | fail)) only [wI_id, zLc_lt, zLc_gt, zLc_eq, zLc_le, zLc_ge, Int.reduceEq, Int.reduceLE, Int.reduceLT, Int.reduceNeg, Int.reduceAdd, Int.reduceMul, Int.reduceSub, not_true_eq_false, not_false_eq_true, reduceIte, zPo_v, zPo_n, zPo_t, zKl_i, zKl_r, zKl_n, zKl_l, gK_sI, gK_sJ, gK_sR, gK_sIA, gK_sJA, gR_sI, gR_sJ, gJ_sI, gI_sJ, gI_sR, gJ_sR, gR_sIA, gJ_sIA, Nat.reduceLeDiff, Nat.reduceEqDiff, and_self, and_true, true_and, and_false, false_and, eX6_ruledBy_0, eX6_ruledBy_1, eX6_ruledBy_2, eX6_ruledBy_5, eX6_ruledBy_8, eX6_ruledBy_9, eX6_ruledBy_12, eX6_ruledBy_15, eX6_ruledBy_16, eX6_ruledBy_17, eX6_ruledBy_18, eX6_ruledBy_19, eX6_ruledBy_22, eX6_ruledBy_25, eX6_ruledBy_28, eX6_ruledBy_31, eX6_ruledBy_32, eX6_ruledBy_33, eX6_ruledBy_36, eX6_ruledBy_in, zH2_gK, zH2_gR, zH2_at, zH2_sI, zU_ne, P, zMkk P, cM_isShip (P2 _ _), cM_isRule, cM_refuse (P2 _ _), zH2_sIne]
    (repeat' split) <;> first | exact h9 | (exfalso; omega)
theorem oM_ruled {s : Int} (P : zMk h) (v : zIv a) (hQ : ∀ k9, Q (zRv (zi (oRuled a s).1) (zH2 (sI h 113 2 (oRuled a s).2) a k9))) : zCm mX6_ruled d [zr (some 113), zi s] (zH2 h a f) Q := by
  have P2 : ∀ a f, zMk (zH2 h a f) := fun _ _ => P
  have P3 : ∀ a f x, zMk (zH2 (sI h 113 2 x) a f) := fun _ _ _ => P
  have b0 := (zIgd v).1
  have b1 := (zIgd v).2.1
  have b2 := zIports v
  have b3 := zIships v
  have b4 := zIrule v
  simp (disch := (first | (simp only [gK_sI, gK_sJ, gK_sR, gK_sIA, gK_sJA, gR_sI, gR_sJ, gR_sIA, Nat.reduceLeDiff, Nat.reduceEqDiff, Nat.reduceLT, Int.reduceLE, Int.reduceLT, Int.reduceEq, zWt_i, zWt_l, zWt_r, zWt_n, zH2_gK, zH2_mk, P, zMkk P, zMr0 P, zMk0 P] <;> omega) | omega | fail)) only [if_pos, if_neg, wI_id, zLc_lt, zLc_gt, zLc_eq, zLc_le, zLc_ge, Int.reduceEq, Int.reduceLE, Int.reduceLT, Int.reduceNeg, Int.reduceAdd, Int.reduceMul, Int.reduceSub, not_true_eq_false, not_false_eq_true, reduceIte, zPo_v, zPo_n, zPo_t, zKl_i, zKl_r, zKl_n, zKl_l, gK_sI, gK_sJ, gK_sR, gK_sIA, gK_sJA, gR_sI, gR_sJ, gJ_sI, gI_sJ, gI_sR, gJ_sR, gR_sIA, gJ_sIA, Nat.reduceLeDiff, Nat.reduceEqDiff, and_self, and_true, true_and, and_false, false_and, eX6_ruled_0, eX6_ruled_1, eX6_ruled_2, eX6_ruled_3, eX6_ruled_6, eX6_ruled_7, eX6_ruled_8, eX6_ruled_11, eX6_ruled_in, zH2_gK, zH2_gR, zH2_at, zH2_sI, zU_ne, P, zMkk P, zMr0 P, zMk0 P]
  refine oM_ruledBy P v (fun g => ?_)
  simp (disch := (first | (simp only [gK_sI, gK_sJ, gK_sR, gK_sIA, gK_sJA, gR_sI, gR_sJ, gR_sIA, Nat.reduceLeDiff, Nat.reduceEqDiff, Nat.reduceLT, Int.reduceLE, Int.reduceLT, Int.reduceEq, zWt_i, zWt_l, zWt_r, zWt_n] <;> omega) | omega | fail)) only [if_pos, if_neg, wI_id, zLc_lt, zLc_gt, zLc_eq, zLc_le, zLc_ge, Int.reduceEq, Int.reduceLE, Int.reduceLT, Int.reduceNeg, Int.reduceAdd, Int.reduceMul, Int.reduceSub, not_true_eq_false, not_false_eq_true, reduceIte, zPo_v, zPo_n, zPo_t, zKl_i, zKl_r, zKl_n, zKl_l, gK_sI, gK_sJ, gK_sR, gK_sIA, gK_sJA, gR_sI, gR_sJ, gJ_sI, gI_sJ, gI_sR, gJ_sR, gR_sIA, gJ_sIA, Nat.reduceLeDiff, Nat.reduceEqDiff, and_self, and_true, true_and, and_false, false_and, eX6_ruled_0, eX6_ruled_1, eX6_ruled_2, eX6_ruled_3, eX6_ruled_6, eX6_ruled_7, eX6_ruled_8, eX6_ruled_11, eX6_ruled_in]
  exact hQ g
theorem oX_weightBy {s n y : Int} (K : zXk h) (v : zIv a) (P : zPw h 75 a nm) (hQ : ∀ h', zPw h' 75 a nm → zSx h h' → gI h' 65 7 = (oWeightBy a s n y).2 → Q (zRv (zi (oWeightBy a s n y).1) h')) : zCm mX0_weightBy d [zr (some 65), zi s, zi n, zi y] h Q := by
  have W := P.2.1
  have e2 : ∀ x, zXk (sI h 65 7 x) := fun _ => K
  have P9 : ∀ x, zPw (sI h 65 7 x) 75 a nm := fun x => zPw_st v P K
  have S9 : ∀ x, zSx h (sI h 65 7 x) := fun x => zSx_st zSx_rf
  have b0 := (zIgd v).1
  have b1 := (zIgd v).2.1
  have b2 := zIports v
  have b3 := zIships v
  have b4 := zIrule v
  by_cases hc : (0 ≤ s ∧ s < a 3) ∧ (0 ≤ n ∧ n < a 0) ∧ (0 ≤ y ∧ y ≤ 2)
  · have e : oWeightBy a s n y = (fW a (fLd a s) n y, 0) := if_pos hc
    simp (disch := (first | (simp only [gK_sI, gK_sJ, gK_sR, gK_sIA, gK_sJA, gR_sI, gR_sJ, gR_sIA, Nat.reduceLeDiff, Nat.reduceEqDiff, Nat.reduceLT, Int.reduceLE, Int.reduceLT, Int.reduceEq, zWt_i, zWt_l, zWt_r, zWt_n, K, zXkk K, zXh0 K, W, zWkk W, e2] <;> omega) | omega | fail)) only [if_pos, if_neg, wI_id, zLc_lt, zLc_gt, zLc_eq, zLc_le, zLc_ge, Int.reduceEq, Int.reduceLE, Int.reduceLT, Int.reduceNeg, Int.reduceAdd, Int.reduceMul, Int.reduceSub, not_true_eq_false, not_false_eq_true, reduceIte, zPo_v, zPo_n, zPo_t, zKl_i, zKl_r, zKl_n, zKl_l, gK_sI, gK_sJ, gK_sR, gK_sIA, gK_sJA, gR_sI, gR_sJ, gJ_sI, gI_sJ, gI_sR, gJ_sR, gR_sIA, gJ_sIA, Nat.reduceLeDiff, Nat.reduceEqDiff, and_self, and_true, true_and, and_false, false_and, eX0_weightBy_0, eX0_weightBy_1, eX0_weightBy_2, eX0_weightBy_3, eX0_weightBy_6, eX0_weightBy_9, eX0_weightBy_10, eX0_weightBy_11, eX0_weightBy_14, eX0_weightBy_17, eX0_weightBy_18, eX0_weightBy_21, eX0_weightBy_24, eX0_weightBy_25, eX0_weightBy_28, eX0_weightBy_29, eX0_weightBy_32, eX0_weightBy_33, eX0_weightBy_36, eX0_weightBy_39, eX0_weightBy_40, eX0_weightBy_43, eX0_weightBy_44, eX0_weightBy_47, eX0_weightBy_48, eX0_weightBy_49, eX0_weightBy_50, eX0_weightBy_53, tX0_weightBy, eX0_weightBy_in, K, zXkk K, zXh0 K, W, zWkk W, kX0_isShip K v P, kX0_isNation K v P, kX0_isRule, kX0_at, cX_weight v (P9 0), gI_sI_ne, gI_sI_eq, zU_eq]
    exact zFxs hQ v K P zSx_rf e
  · have e : oWeightBy a s n y = (-1, 1) := if_neg hc
    have h9 := zFxs hQ v K P zSx_rf e
    simp (disch := (first | (simp only [gK_sI, gK_sJ, gK_sR, gK_sIA, gK_sJA, gR_sI, gR_sJ, gR_sIA, Nat.reduceLeDiff, Nat.reduceEqDiff, Nat.reduceLT, Int.reduceLE, Int.reduceLT, Int.reduceEq, zWt_i, zWt_l, zWt_r, zWt_n, K, zXkk K, zXh0 K, W, zWkk W, e2] <;> omega) | omega | fail)) only [wI_id, zLc_lt, zLc_gt, zLc_eq, zLc_le, zLc_ge, Int.reduceEq, Int.reduceLE, Int.reduceLT, Int.reduceNeg, Int.reduceAdd, Int.reduceMul, Int.reduceSub, not_true_eq_false, not_false_eq_true, reduceIte, zPo_v, zPo_n, zPo_t, zKl_i, zKl_r, zKl_n, zKl_l, gK_sI, gK_sJ, gK_sR, gK_sIA, gK_sJA, gR_sI, gR_sJ, gJ_sI, gI_sJ, gI_sR, gJ_sR, gR_sIA, gJ_sIA, Nat.reduceLeDiff, Nat.reduceEqDiff, and_self, and_true, true_and, and_false, false_and, eX0_weightBy_0, eX0_weightBy_1, eX0_weightBy_2, eX0_weightBy_3, eX0_weightBy_6, eX0_weightBy_9, eX0_weightBy_10, eX0_weightBy_11, eX0_weightBy_14, eX0_weightBy_17, eX0_weightBy_18, eX0_weightBy_21, eX0_weightBy_24, eX0_weightBy_25, eX0_weightBy_28, eX0_weightBy_29, eX0_weightBy_32, eX0_weightBy_33, eX0_weightBy_36, eX0_weightBy_39, eX0_weightBy_40, eX0_weightBy_43, eX0_weightBy_44, eX0_weightBy_47, eX0_weightBy_48, eX0_weightBy_49, eX0_weightBy_50, eX0_weightBy_53, tX0_weightBy, eX0_weightBy_in, K, zXkk K, zXh0 K, W, zWkk W, kX0_isShip K v P, kX0_isNation K v P, kX0_isRule, gI_sI_ne, gI_sI_eq, zU_eq]
    (repeat' split) <;> first | exact h9 | (exfalso; omega)
theorem oX_weight {s n : Int} (K : zXk h) (v : zIv a) (P : zPw h 75 a nm) (hQ : ∀ h', zPw h' 75 a nm → zSx h h' → gI h' 65 7 = (oWeight a s n).2 → Q (zRv (zi (oWeight a s n).1) h')) : zCm mX0_weight d [zr (some 65), zi s, zi n] h Q := by
  have W := P.2.1
  have e2 : ∀ x, zXk (sI h 65 7 x) := fun _ => K
  have P9 : ∀ x, zPw (sI h 65 7 x) 75 a nm := fun x => zPw_st v P K
  have S9 : ∀ x, zSx h (sI h 65 7 x) := fun x => zSx_st zSx_rf
  have b0 := (zIgd v).1
  have b1 := (zIgd v).2.1
  have b2 := zIports v
  have b3 := zIships v
  have b4 := zIrule v
  have e4 := P.2.2.1.2.2.2.2.1
  by_cases hc : (0 ≤ s ∧ s < a 3) ∧ (0 ≤ n ∧ n < a 0)
  · have e : oWeight a s n = (fW a (fLd a s) n (a 4), 0) := if_pos ⟨hc.1, hc.2, b4⟩
    simp (disch := (first | (simp only [gK_sI, gK_sJ, gK_sR, gK_sIA, gK_sJA, gR_sI, gR_sJ, gR_sIA, Nat.reduceLeDiff, Nat.reduceEqDiff, Nat.reduceLT, Int.reduceLE, Int.reduceLT, Int.reduceEq, zWt_i, zWt_l, zWt_r, zWt_n, K, zXkk K, zXh0 K, W, zWkk W, e2] <;> omega) | omega | fail)) only [if_pos, if_neg, wI_id, zLc_lt, zLc_gt, zLc_eq, zLc_le, zLc_ge, Int.reduceEq, Int.reduceLE, Int.reduceLT, Int.reduceNeg, Int.reduceAdd, Int.reduceMul, Int.reduceSub, not_true_eq_false, not_false_eq_true, reduceIte, zPo_v, zPo_n, zPo_t, zKl_i, zKl_r, zKl_n, zKl_l, gK_sI, gK_sJ, gK_sR, gK_sIA, gK_sJA, gR_sI, gR_sJ, gJ_sI, gI_sJ, gI_sR, gJ_sR, gR_sIA, gJ_sIA, Nat.reduceLeDiff, Nat.reduceEqDiff, and_self, and_true, true_and, and_false, false_and, eX0_weight_0, eX0_weight_1, eX0_weight_2, eX0_weight_3, eX0_weight_6, eX0_weight_9, eX0_weight_10, eX0_weight_11, eX0_weight_14, eX0_weight_17, eX0_weight_18, eX0_weight_21, eX0_weight_22, eX0_weight_25, eX0_weight_26, eX0_weight_29, eX0_weight_32, eX0_weight_33, eX0_weight_36, eX0_weight_37, eX0_weight_40, eX0_weight_41, eX0_weight_42, eX0_weight_43, eX0_weight_46, eX0_weight_49, eX0_weight_52, tX0_weight, eX0_weight_in, K, zXkk K, zXh0 K, W, zWkk W, kX0_isShip K v P, kX0_isNation K v P, kX0_isRule, kX0_at, cX_weight v (P9 0), gI_sI_ne, gI_sI_eq, zU_eq, e4]
    exact zFxs hQ v K P zSx_rf e
  · have e : oWeight a s n = (-1, 1) := if_neg (fun h => hc ⟨h.1, h.2.1⟩)
    have h9 := zFxs hQ v K P zSx_rf e
    simp (disch := (first | (simp only [gK_sI, gK_sJ, gK_sR, gK_sIA, gK_sJA, gR_sI, gR_sJ, gR_sIA, Nat.reduceLeDiff, Nat.reduceEqDiff, Nat.reduceLT, Int.reduceLE, Int.reduceLT, Int.reduceEq, zWt_i, zWt_l, zWt_r, zWt_n, K, zXkk K, zXh0 K, W, zWkk W, e2] <;> omega) | omega | fail)) only [wI_id, zLc_lt, zLc_gt, zLc_eq, zLc_le, zLc_ge, Int.reduceEq, Int.reduceLE, Int.reduceLT, Int.reduceNeg, Int.reduceAdd, Int.reduceMul, Int.reduceSub, not_true_eq_false, not_false_eq_true, reduceIte, zPo_v, zPo_n, zPo_t, zKl_i, zKl_r, zKl_n, zKl_l, gK_sI, gK_sJ, gK_sR, gK_sIA, gK_sJA, gR_sI, gR_sJ, gJ_sI, gI_sJ, gI_sR, gJ_sR, gR_sIA, gJ_sIA, Nat.reduceLeDiff, Nat.reduceEqDiff, and_self, and_true, true_and, and_false, false_and, eX0_weight_0, eX0_weight_1, eX0_weight_2, eX0_weight_3, eX0_weight_6, eX0_weight_9, eX0_weight_10, eX0_weight_11, eX0_weight_14, eX0_weight_17, eX0_weight_18, eX0_weight_21, eX0_weight_22, eX0_weight_25, eX0_weight_26, eX0_weight_29, eX0_weight_32, eX0_weight_33, eX0_weight_36, eX0_weight_37, eX0_weight_40, eX0_weight_41, eX0_weight_42, eX0_weight_43, eX0_weight_46, eX0_weight_49, eX0_weight_52, tX0_weight, eX0_weight_in, K, zXkk K, zXh0 K, W, zWkk W, kX0_isShip K v P, kX0_isNation K v P, gI_sI_ne, gI_sI_eq, zU_eq]
    (repeat' split) <;> first | exact h9 | (exfalso; omega)
theorem oX_captains {s : Int} (K : zXk h) (v : zIv a) (P : zPw h 75 a nm) (hQ : ∀ h', zPw h' 75 a nm → zSx h h' → gI h' 65 7 = (oCaptains a s).2 → Q (zRv (zi (oCaptains a s).1) h')) : zCm mX0_captains d [zr (some 65), zi s] h Q := by
  have W := P.2.1
  have e2 : ∀ x, zXk (sI h 65 7 x) := fun _ => K
  have P9 : ∀ x, zPw (sI h 65 7 x) 75 a nm := fun x => zPw_st v P K
  have S9 : ∀ x, zSx h (sI h 65 7 x) := fun x => zSx_st zSx_rf
  have b0 := (zIgd v).1
  have b1 := (zIgd v).2.1
  have b2 := zIports v
  have b3 := zIships v
  have b4 := zIrule v
  by_cases hc : 0 ≤ s ∧ s < a 3
  · have e : oCaptains a s = (fCap a (fLd a s) (a 4), 0) := if_pos hc
    simp (disch := (first | (simp only [gK_sI, gK_sJ, gK_sR, gK_sIA, gK_sJA, gR_sI, gR_sJ, gR_sIA, Nat.reduceLeDiff, Nat.reduceEqDiff, Nat.reduceLT, Int.reduceLE, Int.reduceLT, Int.reduceEq, zWt_i, zWt_l, zWt_r, zWt_n, K, zXkk K, zXh0 K, W, zWkk W, e2] <;> omega) | omega | fail)) only [if_pos, if_neg, wI_id, zLc_lt, zLc_gt, zLc_eq, zLc_le, zLc_ge, Int.reduceEq, Int.reduceLE, Int.reduceLT, Int.reduceNeg, Int.reduceAdd, Int.reduceMul, Int.reduceSub, not_true_eq_false, not_false_eq_true, reduceIte, zPo_v, zPo_n, zPo_t, zKl_i, zKl_r, zKl_n, zKl_l, gK_sI, gK_sJ, gK_sR, gK_sIA, gK_sJA, gR_sI, gR_sJ, gJ_sI, gI_sJ, gI_sR, gJ_sR, gR_sIA, gJ_sIA, Nat.reduceLeDiff, Nat.reduceEqDiff, and_self, and_true, true_and, and_false, false_and, eX0_captains_0, eX0_captains_1, eX0_captains_2, eX0_captains_3, eX0_captains_6, eX0_captains_9, eX0_captains_10, eX0_captains_13, eX0_captains_14, eX0_captains_17, eX0_captains_18, eX0_captains_21, eX0_captains_24, eX0_captains_25, eX0_captains_28, eX0_captains_29, eX0_captains_32, eX0_captains_33, eX0_captains_36, tX0_captains, eX0_captains_in, K, zXkk K, zXh0 K, W, zWkk W, kX0_isShip K v P, kX0_at, gI_sI_ne, gI_sI_eq, zU_eq]
    refine kX_captains2 v (P9 0) hc.1 (by omega) (fun h1 P1 S1 => ?_)
    simp (disch := (first | (simp only [gK_sI, gK_sJ, gK_sR, gK_sIA, gK_sJA, gR_sI, gR_sJ, gR_sIA, Nat.reduceLeDiff, Nat.reduceEqDiff, Nat.reduceLT, Int.reduceLE, Int.reduceLT, Int.reduceEq, zWt_i, zWt_l, zWt_r, zWt_n] <;> omega) | omega | fail)) only [if_pos, if_neg, wI_id, zLc_lt, zLc_gt, zLc_eq, zLc_le, zLc_ge, Int.reduceEq, Int.reduceLE, Int.reduceLT, Int.reduceNeg, Int.reduceAdd, Int.reduceMul, Int.reduceSub, not_true_eq_false, not_false_eq_true, reduceIte, zPo_v, zPo_n, zPo_t, zKl_i, zKl_r, zKl_n, zKl_l, gK_sI, gK_sJ, gK_sR, gK_sIA, gK_sJA, gR_sI, gR_sJ, gJ_sI, gI_sJ, gI_sR, gJ_sR, gR_sIA, gJ_sIA, Nat.reduceLeDiff, Nat.reduceEqDiff, and_self, and_true, true_and, and_false, false_and, eX0_captains_0, eX0_captains_1, eX0_captains_2, eX0_captains_3, eX0_captains_6, eX0_captains_9, eX0_captains_10, eX0_captains_13, eX0_captains_14, eX0_captains_17, eX0_captains_18, eX0_captains_21, eX0_captains_24, eX0_captains_25, eX0_captains_28, eX0_captains_29, eX0_captains_32, eX0_captains_33, eX0_captains_36, tX0_captains, eX0_captains_in]
    exact zFx hQ P1 (zSx_tr (S9 0) (zSx_w S1)) (by rw [zSw65 S1 (by decide), gI_sI_eq, zU_eq]) e
  · have e : oCaptains a s = (-1, 1) := if_neg hc
    have h9 := zFxs hQ v K P zSx_rf e
    simp (disch := (first | (simp only [gK_sI, gK_sJ, gK_sR, gK_sIA, gK_sJA, gR_sI, gR_sJ, gR_sIA, Nat.reduceLeDiff, Nat.reduceEqDiff, Nat.reduceLT, Int.reduceLE, Int.reduceLT, Int.reduceEq, zWt_i, zWt_l, zWt_r, zWt_n, K, zXkk K, zXh0 K, W, zWkk W, e2] <;> omega) | omega | fail)) only [if_pos, if_neg, wI_id, zLc_lt, zLc_gt, zLc_eq, zLc_le, zLc_ge, Int.reduceEq, Int.reduceLE, Int.reduceLT, Int.reduceNeg, Int.reduceAdd, Int.reduceMul, Int.reduceSub, not_true_eq_false, not_false_eq_true, reduceIte, zPo_v, zPo_n, zPo_t, zKl_i, zKl_r, zKl_n, zKl_l, gK_sI, gK_sJ, gK_sR, gK_sIA, gK_sJA, gR_sI, gR_sJ, gJ_sI, gI_sJ, gI_sR, gJ_sR, gR_sIA, gJ_sIA, Nat.reduceLeDiff, Nat.reduceEqDiff, and_self, and_true, true_and, and_false, false_and, eX0_captains_0, eX0_captains_1, eX0_captains_2, eX0_captains_3, eX0_captains_6, eX0_captains_9, eX0_captains_10, eX0_captains_13, eX0_captains_14, eX0_captains_17, eX0_captains_18, eX0_captains_21, eX0_captains_24, eX0_captains_25, eX0_captains_28, eX0_captains_29, eX0_captains_32, eX0_captains_33, eX0_captains_36, tX0_captains, eX0_captains_in, K, zXkk K, zXh0 K, W, zWkk W, kX0_isShip K v P, gI_sI_ne, gI_sI_eq, zU_eq]
    (repeat' split) <;> first | exact h9 | (exfalso; omega)
theorem oX_ruledBy {s y : Int} (K : zXk h) (v : zIv a) (P : zPw h 75 a nm) (hQ : ∀ h', zPw h' 75 a nm → zSx h h' → gI h' 65 7 = (oRuledBy a s y).2 → Q (zRv (zi (oRuledBy a s y).1) h')) : zCm mX0_ruledBy d [zr (some 65), zi s, zi y] h Q := by
  have W := P.2.1
  have e2 : ∀ x, zXk (sI h 65 7 x) := fun _ => K
  have P9 : ∀ x, zPw (sI h 65 7 x) 75 a nm := fun x => zPw_st v P K
  have S9 : ∀ x, zSx h (sI h 65 7 x) := fun x => zSx_st zSx_rf
  have b0 := (zIgd v).1
  have b1 := (zIgd v).2.1
  have b2 := zIports v
  have b3 := zIships v
  have b4 := zIrule v
  by_cases hc : (0 ≤ s ∧ s < a 3) ∧ (0 ≤ y ∧ y ≤ 2)
  · have e : oRuledBy a s y = (if fOne (fCap a (fLd a s) y) = -1 then (-1, 6) else (fOne (fCap a (fLd a s) y), 0)) := if_pos hc
    have ho := fOne_b (s := fCap a (fLd a s) y)
    simp (disch := (first | (simp only [gK_sI, gK_sJ, gK_sR, gK_sIA, gK_sJA, gR_sI, gR_sJ, gR_sIA, Nat.reduceLeDiff, Nat.reduceEqDiff, Nat.reduceLT, Int.reduceLE, Int.reduceLT, Int.reduceEq, zWt_i, zWt_l, zWt_r, zWt_n, K, zXkk K, zXh0 K, W, zWkk W, e2] <;> omega) | omega | fail)) only [if_pos, if_neg, wI_id, zLc_lt, zLc_gt, zLc_eq, zLc_le, zLc_ge, Int.reduceEq, Int.reduceLE, Int.reduceLT, Int.reduceNeg, Int.reduceAdd, Int.reduceMul, Int.reduceSub, not_true_eq_false, not_false_eq_true, reduceIte, zPo_v, zPo_n, zPo_t, zKl_i, zKl_r, zKl_n, zKl_l, gK_sI, gK_sJ, gK_sR, gK_sIA, gK_sJA, gR_sI, gR_sJ, gJ_sI, gI_sJ, gI_sR, gJ_sR, gR_sIA, gJ_sIA, Nat.reduceLeDiff, Nat.reduceEqDiff, and_self, and_true, true_and, and_false, false_and, eX0_ruledBy_0, eX0_ruledBy_1, eX0_ruledBy_2, eX0_ruledBy_3, eX0_ruledBy_6, eX0_ruledBy_9, eX0_ruledBy_10, eX0_ruledBy_13, eX0_ruledBy_16, eX0_ruledBy_17, eX0_ruledBy_20, eX0_ruledBy_21, eX0_ruledBy_24, eX0_ruledBy_25, eX0_ruledBy_28, eX0_ruledBy_31, eX0_ruledBy_32, eX0_ruledBy_35, eX0_ruledBy_36, eX0_ruledBy_37, eX0_ruledBy_40, eX0_ruledBy_41, eX0_ruledBy_42, eX0_ruledBy_45, eX0_ruledBy_48, tX0_ruledBy, eX0_ruledBy_in, K, zXkk K, zXh0 K, W, zWkk W, kX0_isShip K v P, kX0_isRule, kX0_at, gI_sI_ne, gI_sI_eq, zU_eq]
    refine kX_ruled2 v (P9 0) hc.1.1 (by omega) (fun h1 P1 S1 => ?_)
    have K1 : zXk h1 := zXk_w S1 (e2 0)
    simp (disch := (first | (simp only [gK_sI, gK_sJ, gK_sR, gK_sIA, gK_sJA, gR_sI, gR_sJ, gR_sIA, Nat.reduceLeDiff, Nat.reduceEqDiff, Nat.reduceLT, Int.reduceLE, Int.reduceLT, Int.reduceEq, zWt_i, zWt_l, zWt_r, zWt_n, K1, zXkk K1, zXh0 K1] <;> omega) | omega | fail)) only [if_pos, if_neg, wI_id, zLc_lt, zLc_gt, zLc_eq, zLc_le, zLc_ge, Int.reduceEq, Int.reduceLE, Int.reduceLT, Int.reduceNeg, Int.reduceAdd, Int.reduceMul, Int.reduceSub, not_true_eq_false, not_false_eq_true, reduceIte, zPo_v, zPo_n, zPo_t, zKl_i, zKl_r, zKl_n, zKl_l, gK_sI, gK_sJ, gK_sR, gK_sIA, gK_sJA, gR_sI, gR_sJ, gJ_sI, gI_sJ, gI_sR, gJ_sR, gR_sIA, gJ_sIA, Nat.reduceLeDiff, Nat.reduceEqDiff, and_self, and_true, true_and, and_false, false_and, eX0_ruledBy_0, eX0_ruledBy_1, eX0_ruledBy_2, eX0_ruledBy_3, eX0_ruledBy_6, eX0_ruledBy_9, eX0_ruledBy_10, eX0_ruledBy_13, eX0_ruledBy_16, eX0_ruledBy_17, eX0_ruledBy_20, eX0_ruledBy_21, eX0_ruledBy_24, eX0_ruledBy_25, eX0_ruledBy_28, eX0_ruledBy_31, eX0_ruledBy_32, eX0_ruledBy_35, eX0_ruledBy_36, eX0_ruledBy_37, eX0_ruledBy_40, eX0_ruledBy_41, eX0_ruledBy_42, eX0_ruledBy_45, eX0_ruledBy_48, tX0_ruledBy, eX0_ruledBy_in, kX0_answer K1]
    split
    · have e9 : fOne (fCap a (fLd a s) y) = -1 := by omega
      rw [e9] at e ⊢
      exact zFxs hQ v K1 P1 (zSx_tr (S9 0) (zSx_w S1)) e
    · exact zFxs hQ v K1 P1 (zSx_tr (S9 0) (zSx_w S1)) (by rw [e, if_neg (by omega)])
  · have e : oRuledBy a s y = (-1, 1) := if_neg hc
    have h9 := zFxs hQ v K P zSx_rf e
    simp (disch := (first | (simp only [gK_sI, gK_sJ, gK_sR, gK_sIA, gK_sJA, gR_sI, gR_sJ, gR_sIA, Nat.reduceLeDiff, Nat.reduceEqDiff, Nat.reduceLT, Int.reduceLE, Int.reduceLT, Int.reduceEq, zWt_i, zWt_l, zWt_r, zWt_n, K, zXkk K, zXh0 K, W, zWkk W, e2] <;> omega) | omega | fail)) only [wI_id, zLc_lt, zLc_gt, zLc_eq, zLc_le, zLc_ge, Int.reduceEq, Int.reduceLE, Int.reduceLT, Int.reduceNeg, Int.reduceAdd, Int.reduceMul, Int.reduceSub, not_true_eq_false, not_false_eq_true, reduceIte, zPo_v, zPo_n, zPo_t, zKl_i, zKl_r, zKl_n, zKl_l, gK_sI, gK_sJ, gK_sR, gK_sIA, gK_sJA, gR_sI, gR_sJ, gJ_sI, gI_sJ, gI_sR, gJ_sR, gR_sIA, gJ_sIA, Nat.reduceLeDiff, Nat.reduceEqDiff, and_self, and_true, true_and, and_false, false_and, eX0_ruledBy_0, eX0_ruledBy_1, eX0_ruledBy_2, eX0_ruledBy_3, eX0_ruledBy_6, eX0_ruledBy_9, eX0_ruledBy_10, eX0_ruledBy_13, eX0_ruledBy_16, eX0_ruledBy_17, eX0_ruledBy_20, eX0_ruledBy_21, eX0_ruledBy_24, eX0_ruledBy_25, eX0_ruledBy_28, eX0_ruledBy_31, eX0_ruledBy_32, eX0_ruledBy_35, eX0_ruledBy_36, eX0_ruledBy_37, eX0_ruledBy_40, eX0_ruledBy_41, eX0_ruledBy_42, eX0_ruledBy_45, eX0_ruledBy_48, tX0_ruledBy, eX0_ruledBy_in, K, zXkk K, zXh0 K, W, zWkk W, kX0_isShip K v P, kX0_isRule, gI_sI_ne, gI_sI_eq, zU_eq]
    (repeat' split) <;> first | exact h9 | (exfalso; omega)
theorem oX_ruled {s : Int} (K : zXk h) (v : zIv a) (P : zPw h 75 a nm) (hQ : ∀ h', zPw h' 75 a nm → zSx h h' → gI h' 65 7 = (oRuled a s).2 → Q (zRv (zi (oRuled a s).1) h')) : zCm mX0_ruled d [zr (some 65), zi s] h Q := by
  have W := P.2.1
  have e2 : ∀ x, zXk (sI h 65 7 x) := fun _ => K
  have P9 : ∀ x, zPw (sI h 65 7 x) 75 a nm := fun x => zPw_st v P K
  have S9 : ∀ x, zSx h (sI h 65 7 x) := fun x => zSx_st zSx_rf
  have b0 := (zIgd v).1
  have b1 := (zIgd v).2.1
  have b2 := zIports v
  have b3 := zIships v
  have b4 := zIrule v
  by_cases hc : 0 ≤ s ∧ s < a 3
  · have e : oRuled a s = (if fFl a s = -1 then (-1, 6) else (fFl a s, 0)) := if_pos ⟨hc, b4⟩
    have ho := fFl_b (a := a) (s := s)
    simp (disch := (first | (simp only [gK_sI, gK_sJ, gK_sR, gK_sIA, gK_sJA, gR_sI, gR_sJ, gR_sIA, Nat.reduceLeDiff, Nat.reduceEqDiff, Nat.reduceLT, Int.reduceLE, Int.reduceLT, Int.reduceEq, zWt_i, zWt_l, zWt_r, zWt_n, K, zXkk K, zXh0 K, W, zWkk W, e2] <;> omega) | omega | fail)) only [if_pos, if_neg, wI_id, zLc_lt, zLc_gt, zLc_eq, zLc_le, zLc_ge, Int.reduceEq, Int.reduceLE, Int.reduceLT, Int.reduceNeg, Int.reduceAdd, Int.reduceMul, Int.reduceSub, not_true_eq_false, not_false_eq_true, reduceIte, zPo_v, zPo_n, zPo_t, zKl_i, zKl_r, zKl_n, zKl_l, gK_sI, gK_sJ, gK_sR, gK_sIA, gK_sJA, gR_sI, gR_sJ, gJ_sI, gI_sJ, gI_sR, gJ_sR, gR_sIA, gJ_sIA, Nat.reduceLeDiff, Nat.reduceEqDiff, and_self, and_true, true_and, and_false, false_and, eX0_ruled_0, eX0_ruled_1, eX0_ruled_2, eX0_ruled_3, eX0_ruled_6, eX0_ruled_9, eX0_ruled_10, eX0_ruled_13, eX0_ruled_14, eX0_ruled_17, eX0_ruled_18, eX0_ruled_21, eX0_ruled_24, eX0_ruled_25, eX0_ruled_28, eX0_ruled_29, eX0_ruled_30, eX0_ruled_33, eX0_ruled_34, eX0_ruled_37, eX0_ruled_40, tX0_ruled, eX0_ruled_in, K, zXkk K, zXh0 K, W, zWkk W, kX0_isShip K v P, kX0_at, gI_sI_ne, gI_sI_eq, zU_eq]
    refine kX_ruled v (P9 0) hc.1 (by omega) (fun h1 P1 S1 => ?_)
    have K1 : zXk h1 := zXk_w S1 (e2 0)
    simp (disch := (first | (simp only [gK_sI, gK_sJ, gK_sR, gK_sIA, gK_sJA, gR_sI, gR_sJ, gR_sIA, Nat.reduceLeDiff, Nat.reduceEqDiff, Nat.reduceLT, Int.reduceLE, Int.reduceLT, Int.reduceEq, zWt_i, zWt_l, zWt_r, zWt_n, K1, zXkk K1, zXh0 K1] <;> omega) | omega | fail)) only [if_pos, if_neg, wI_id, zLc_lt, zLc_gt, zLc_eq, zLc_le, zLc_ge, Int.reduceEq, Int.reduceLE, Int.reduceLT, Int.reduceNeg, Int.reduceAdd, Int.reduceMul, Int.reduceSub, not_true_eq_false, not_false_eq_true, reduceIte, zPo_v, zPo_n, zPo_t, zKl_i, zKl_r, zKl_n, zKl_l, gK_sI, gK_sJ, gK_sR, gK_sIA, gK_sJA, gR_sI, gR_sJ, gJ_sI, gI_sJ, gI_sR, gJ_sR, gR_sIA, gJ_sIA, Nat.reduceLeDiff, Nat.reduceEqDiff, and_self, and_true, true_and, and_false, false_and, eX0_ruled_0, eX0_ruled_1, eX0_ruled_2, eX0_ruled_3, eX0_ruled_6, eX0_ruled_9, eX0_ruled_10, eX0_ruled_13, eX0_ruled_14, eX0_ruled_17, eX0_ruled_18, eX0_ruled_21, eX0_ruled_24, eX0_ruled_25, eX0_ruled_28, eX0_ruled_29, eX0_ruled_30, eX0_ruled_33, eX0_ruled_34, eX0_ruled_37, eX0_ruled_40, tX0_ruled, eX0_ruled_in, kX0_answer K1]
    split
    · have e9 : fFl a s = -1 := by omega
      rw [e9] at e ⊢
      exact zFxs hQ v K1 P1 (zSx_tr (S9 0) (zSx_w S1)) e
    · exact zFxs hQ v K1 P1 (zSx_tr (S9 0) (zSx_w S1)) (by rw [e, if_neg (by omega)])
  · have e : oRuled a s = (-1, 1) := if_neg (fun h => hc h.1)
    have h9 := zFxs hQ v K P zSx_rf e
    simp (disch := (first | (simp only [gK_sI, gK_sJ, gK_sR, gK_sIA, gK_sJA, gR_sI, gR_sJ, gR_sIA, Nat.reduceLeDiff, Nat.reduceEqDiff, Nat.reduceLT, Int.reduceLE, Int.reduceLT, Int.reduceEq, zWt_i, zWt_l, zWt_r, zWt_n, K, zXkk K, zXh0 K, W, zWkk W, e2] <;> omega) | omega | fail)) only [if_pos, if_neg, wI_id, zLc_lt, zLc_gt, zLc_eq, zLc_le, zLc_ge, Int.reduceEq, Int.reduceLE, Int.reduceLT, Int.reduceNeg, Int.reduceAdd, Int.reduceMul, Int.reduceSub, not_true_eq_false, not_false_eq_true, reduceIte, zPo_v, zPo_n, zPo_t, zKl_i, zKl_r, zKl_n, zKl_l, gK_sI, gK_sJ, gK_sR, gK_sIA, gK_sJA, gR_sI, gR_sJ, gJ_sI, gI_sJ, gI_sR, gJ_sR, gR_sIA, gJ_sIA, Nat.reduceLeDiff, Nat.reduceEqDiff, and_self, and_true, true_and, and_false, false_and, eX0_ruled_0, eX0_ruled_1, eX0_ruled_2, eX0_ruled_3, eX0_ruled_6, eX0_ruled_9, eX0_ruled_10, eX0_ruled_13, eX0_ruled_14, eX0_ruled_17, eX0_ruled_18, eX0_ruled_21, eX0_ruled_24, eX0_ruled_25, eX0_ruled_28, eX0_ruled_29, eX0_ruled_30, eX0_ruled_33, eX0_ruled_34, eX0_ruled_37, eX0_ruled_40, tX0_ruled, eX0_ruled_in, K, zXkk K, zXh0 K, W, zWkk W, kX0_isShip K v P, gI_sI_ne, gI_sI_eq, zU_eq]
    (repeat' split) <;> first | exact h9 | (exfalso; omega)
end O2
