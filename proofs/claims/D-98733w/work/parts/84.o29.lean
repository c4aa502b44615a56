/-! ===== A WORLD IS MADE PLAIN (the reference) ===== -/
set_option maxRecDepth 100000
def fPlain (V : Int → Int) (s : Int) : Int → Int := fun k => if s ≤ k ∧ k < s + 572 then (if k = s + 6 then -1 else 0) else V k
section J12
variable {d : Nat} {h : zHp} {Q : zRs → Prop}
theorem kM_plain {s : Int} (P : zMk h) (s0 : 0 ≤ s) (s1 : s + 572 ≤ 4004) (hQ : Q (zRn (sIA h 114 (fPlain (gI h 114) s)))) : zCm mX6_plain d [zr (some 113), zi s] h Q := by
  have sIAs : ∀ F j v, sI (sIA h 114 F) 114 j v = sIA h 114 (zU F j v) := fun F j v => by
    show sIA (sIA h 114 F) 114 (zU (gI (sIA h 114 F) 114) j v) = _
    rw [gI_sIA_eq, sIA2]
  simp (disch := (first | (simp only [gK_sI, gK_sJ, gK_sR, gK_sIA, gK_sJA, gR_sI, gR_sJ, gR_sIA, Nat.reduceLeDiff, Nat.reduceEqDiff, Nat.reduceLT, Int.reduceLE, Int.reduceLT, Int.reduceEq, zWt_i, zWt_l, zWt_r, zWt_n] <;> omega) | omega | fail)) only [if_pos, if_neg, wI_id, zLc_lt, zLc_gt, zLc_eq, zLc_le, zLc_ge, Int.reduceEq, Int.reduceLE, Int.reduceLT, Int.reduceNeg, Int.reduceAdd, Int.reduceMul, Int.reduceSub, not_true_eq_false, not_false_eq_true, reduceIte, zPo_v, zPo_n, zPo_t, zKl_i, zKl_r, zKl_n, zKl_l, gK_sI, gK_sJ, gK_sR, gK_sIA, gK_sJA, gR_sI, gR_sJ, gJ_sI, gI_sJ, gI_sR, gJ_sR, gR_sIA, gJ_sIA, Nat.reduceLeDiff, Nat.reduceEqDiff, and_self, and_true, true_and, and_false, false_and, eX6_plain_0, eX6_plain_1, eX6_plain_3, eX6_plain_6, eX6_plain_9, eX6_plain_10, eX6_plain_13, eX6_plain_14, eX6_plain_15, eX6_plain_16, eX6_plain_17, eX6_plain_18, eX6_plain_21, eX6_plain_24, eX6_plain_25, eX6_plain_28, eX6_plain_29, eX6_plain_31, eX6_plain_32, eX6_plain_33, eX6_plain_34, eX6_plain_in]
  refine zLoop 572 (fun i ls h' => 0 ≤ i ∧ ls = [some (zr (some 113)), some (zi s), some (zi i)] ∧ h' = sIA h 114 (fun k => if s ≤ k ∧ k < s + i then 0 else gI h 114 k)) ?_ ?_ 0 _ _ (by omega) ⟨by omega, rfl, ?_⟩
  · rintro i _ _ hi ⟨hi0, rfl, rfl⟩ k
    rw [eX6_plain_2]
    simp (disch := (first | (simp only [gK_sI, gK_sJ, gK_sR, gK_sIA, gK_sJA, gR_sI, gR_sJ, gR_sIA, Nat.reduceLeDiff, Nat.reduceEqDiff, Nat.reduceLT, Int.reduceLE, Int.reduceLT, Int.reduceEq, zWt_i, zWt_l, zWt_r, zWt_n, P, zMkk P, zMr0 P, zMk0 P] <;> omega) | omega | fail)) only [if_pos, if_neg, wI_id, zLc_lt, zLc_gt, zLc_eq, zLc_le, zLc_ge, Int.reduceEq, Int.reduceLE, Int.reduceLT, Int.reduceNeg, Int.reduceAdd, Int.reduceMul, Int.reduceSub, not_true_eq_false, not_false_eq_true, reduceIte, zPo_v, zPo_n, zPo_t, zKl_i, zKl_r, zKl_n, zKl_l, gK_sI, gK_sJ, gK_sR, gK_sIA, gK_sJA, gR_sI, gR_sJ, gJ_sI, gI_sJ, gI_sR, gJ_sR, gR_sIA, gJ_sIA, Nat.reduceLeDiff, Nat.reduceEqDiff, and_self, and_true, true_and, and_false, false_and, eX6_plain_0, eX6_plain_1, eX6_plain_3, eX6_plain_6, eX6_plain_9, eX6_plain_10, eX6_plain_13, eX6_plain_14, eX6_plain_15, eX6_plain_16, eX6_plain_17, eX6_plain_18, eX6_plain_21, eX6_plain_24, eX6_plain_25, eX6_plain_28, eX6_plain_29, eX6_plain_31, eX6_plain_32, eX6_plain_33, eX6_plain_34, eX6_plain_in, P, zMkk P, zMr0 P, zMk0 P, sIAs]
    refine k _ _ ⟨by omega, rfl, ?_⟩
    congr 1
    funext z
    unfold zU
    by_cases c1 : z = s + i
    · rw [if_pos c1, if_pos (by omega)]
    · rw [if_neg c1]
      show (if s ≤ z ∧ z < s + i then 0 else gI h 114 z) = _
      by_cases c2 : s ≤ z ∧ z < s + i
      · rw [if_pos c2, if_pos (by omega)]
      · rw [if_neg c2, if_neg (by omega)]
  · rintro _ _ ⟨-, rfl, rfl⟩
    rw [eX6_plain_2]
    simp (disch := (first | (simp only [gK_sI, gK_sJ, gK_sR, gK_sIA, gK_sJA, gR_sI, gR_sJ, gR_sIA, Nat.reduceLeDiff, Nat.reduceEqDiff, Nat.reduceLT, Int.reduceLE, Int.reduceLT, Int.reduceEq, zWt_i, zWt_l, zWt_r, zWt_n, P, zMkk P, zMr0 P, zMk0 P] <;> omega) | omega | fail)) only [if_pos, if_neg, wI_id, zLc_lt, zLc_gt, zLc_eq, zLc_le, zLc_ge, Int.reduceEq, Int.reduceLE, Int.reduceLT, Int.reduceNeg, Int.reduceAdd, Int.reduceMul, Int.reduceSub, not_true_eq_false, not_false_eq_true, reduceIte, zPo_v, zPo_n, zPo_t, zKl_i, zKl_r, zKl_n, zKl_l, gK_sI, gK_sJ, gK_sR, gK_sIA, gK_sJA, gR_sI, gR_sJ, gJ_sI, gI_sJ, gI_sR, gJ_sR, gR_sIA, gJ_sIA, Nat.reduceLeDiff, Nat.reduceEqDiff, and_self, and_true, true_and, and_false, false_and, eX6_plain_0, eX6_plain_1, eX6_plain_3, eX6_plain_6, eX6_plain_9, eX6_plain_10, eX6_plain_13, eX6_plain_14, eX6_plain_15, eX6_plain_16, eX6_plain_17, eX6_plain_18, eX6_plain_21, eX6_plain_24, eX6_plain_25, eX6_plain_28, eX6_plain_29, eX6_plain_31, eX6_plain_32, eX6_plain_33, eX6_plain_34, eX6_plain_in, P, zMkk P, zMr0 P, zMk0 P, sIAs]
    have e9 : zU (fun k => if s ≤ k ∧ k < s + 572 then 0 else gI h 114 k) (s + 6) (-1) = fPlain (gI h 114) s := by
      funext z
      unfold zU fPlain
      by_cases c1 : z = s + 6
      · rw [if_pos c1, if_pos (by omega), if_pos c1]
      · rw [if_neg c1]
        show (if s ≤ z ∧ z < s + 572 then 0 else gI h 114 z) = _
        by_cases c2 : s ≤ z ∧ z < s + 572
        · rw [if_pos c2, if_pos c2, if_neg c1]
        · rw [if_neg c2, if_neg c2]
    rw [e9]
    exact hQ
  · have e9 : (fun k => if s ≤ k ∧ k < s + 0 then 0 else gI h 114 k) = gI h 114 := by
      funext z
      rw [if_neg (by omega)]
    rw [e9, sIA_id]
end J12
