/-! ===== A WORLD OF THE COMPONENT, 5: sailing, days ===== -/
set_option maxRecDepth 100000
theorem zU_self {a : Int → Int} {k : Int} : zU a k (a k) = a := by
  funext x
  unfold zU
  split
  · rename_i e
    rw [e]
  · rfl
section X5
variable {d w : Nat} {h : zHp} {Q : zRs → Prop} {a nm : Int → Int}
theorem zPw_sail {s p y : Int} (v : zIv a) (P : zPw h w a nm) (h0 : 0 ≤ s) (h1 : s < a 3) (hy : 0 < y) : zPw (sI (sI h (w + 10) s y) (w + 9) s p) w (zU (zU (zU a (146 + 15 * s) (-1)) (147 + 15 * s) p) (148 + 15 * s) y) nm := by
  have h4 := (zIships v).2
  have kk := zWk15 P.2.1
  have kl := zWk14 P.2.1
  refine zPw_upd v P rfl rfl rfl (fun b hb _ => (gI_sI_ne (fun e => by rw [e, kl] at hb; cases hb)).trans (gI_sI_ne (fun e => by rw [e, kk] at hb; cases hb))) (fun k hk => by unfold zStc at hk; rw [zU_ne (by omega), zU_ne (by omega), zU_ne (by omega)]) ?_
  obtain ⟨p0, p1, p2, p3, p4, p5, p6, p7, p8, p9, p10, p11⟩ := P.2.2.1
  refine ⟨?_, ?_, ?_, ?_, ?_, ?_, fun n n0 n1 => ?_, fun p g p0 p1 g0 g1 => ?_, fun p q p0 p1 q0 q1 => ?_, fun t t0 t1 => ?_, fun t t0 t1 => ?_, fun t g t0 t1 g0 g1 => ?_⟩
  · (first | assumption | (simp (disch := omega) only [zU_ne, zU_eq, gI_sI_ne, gI_sI_eq, gI_sIA_ne, gI_sIA_eq] <;> first | assumption | omega) | (simp only [gI_sI_at, gI_sIA_at, zU, reduceIte] <;> (repeat' split) <;> first | assumption | omega))
  · (first | assumption | (simp (disch := omega) only [zU_ne, zU_eq, gI_sI_ne, gI_sI_eq, gI_sIA_ne, gI_sIA_eq] <;> first | assumption | omega) | (simp only [gI_sI_at, gI_sIA_at, zU, reduceIte] <;> (repeat' split) <;> first | assumption | omega))
  · (first | assumption | (simp (disch := omega) only [zU_ne, zU_eq, gI_sI_ne, gI_sI_eq, gI_sIA_ne, gI_sIA_eq] <;> first | assumption | omega) | (simp only [gI_sI_at, gI_sIA_at, zU, reduceIte] <;> (repeat' split) <;> first | assumption | omega))
  · (first | assumption | (simp (disch := omega) only [zU_ne, zU_eq, gI_sI_ne, gI_sI_eq, gI_sIA_ne, gI_sIA_eq] <;> first | assumption | omega) | (simp only [gI_sI_at, gI_sIA_at, zU, reduceIte] <;> (repeat' split) <;> first | assumption | omega))
  · (first | assumption | (simp (disch := omega) only [zU_ne, zU_eq, gI_sI_ne, gI_sI_eq, gI_sIA_ne, gI_sIA_eq] <;> first | assumption | omega) | (simp only [gI_sI_at, gI_sIA_at, zU, reduceIte] <;> (repeat' split) <;> first | assumption | omega))
  · (first | assumption | (simp (disch := omega) only [zU_ne, zU_eq, gI_sI_ne, gI_sI_eq, gI_sIA_ne, gI_sIA_eq] <;> first | assumption | omega) | (simp only [gI_sI_at, gI_sIA_at, zU, reduceIte] <;> (repeat' split) <;> first | assumption | omega))
  · have q9 := p6 n n0 n1
    (first | assumption | (simp (disch := omega) only [zU_ne, zU_eq, gI_sI_ne, gI_sI_eq, gI_sIA_ne, gI_sIA_eq] <;> first | assumption | omega) | (simp only [gI_sI_at, gI_sIA_at, zU, reduceIte] <;> (repeat' split) <;> first | assumption | omega))
  · have q9 := p7 p g p0 p1 g0 g1
    (first | assumption | (simp (disch := omega) only [zU_ne, zU_eq, gI_sI_ne, gI_sI_eq, gI_sIA_ne, gI_sIA_eq] <;> first | assumption | omega) | (simp only [gI_sI_at, gI_sIA_at, zU, reduceIte] <;> (repeat' split) <;> first | assumption | omega))
  · have q9 := p8 p q p0 p1 q0 q1
    (first | assumption | (simp (disch := omega) only [zU_ne, zU_eq, gI_sI_ne, gI_sI_eq, gI_sIA_ne, gI_sIA_eq] <;> first | assumption | omega) | (simp only [gI_sI_at, gI_sIA_at, zU, reduceIte] <;> (repeat' split) <;> first | assumption | omega))
  · obtain ⟨q9, q8, q7, q6⟩ := p9 t t0 t1
    refine ⟨?_, ?_, ?_, ?_⟩ <;> (first | assumption | (simp (disch := omega) only [zU_ne, zU_eq, gI_sI_ne, gI_sI_eq, gI_sIA_ne, gI_sIA_eq] <;> first | assumption | omega) | (simp only [gI_sI_at, gI_sIA_at, zU, reduceIte] <;> (repeat' split) <;> first | assumption | omega))
  · have t1 : t < a 3 := by simpa (disch := omega) only [zU_ne] using t1
    obtain ⟨q9, q8⟩ := p10 t t0 t1
    by_cases e : t = s
    · subst e
      have e1 : zU (zU (zU a (146 + 15 * t) (-1)) (147 + 15 * t) p) (148 + 15 * t) y (148 + 15 * t) = y := zU_eq
      have e2 : zU (zU (zU a (146 + 15 * t) (-1)) (147 + 15 * t) p) (148 + 15 * t) y (147 + 15 * t) = p := by rw [zU_ne (by omega), zU_eq]
      rw [e1, e2, gI_sI_eq, zU_eq]
      exact ⟨fun _ => rfl, fun h => by omega⟩
    · simp (disch := omega) only [zU_ne, gI_sI_ne, gI_sI_eq]
      exact ⟨q9, q8⟩
  · have q9 := p11 t g t0 t1 g0 g1
    (first | assumption | (simp (disch := omega) only [zU_ne, zU_eq, gI_sI_ne, gI_sI_eq, gI_sIA_ne, gI_sIA_eq] <;> first | assumption | omega) | (simp only [gI_sI_at, gI_sIA_at, zU, reduceIte] <;> (repeat' split) <;> first | assumption | omega))
theorem kX_sails {s p : Int} (v : zIv a) (P : zPw h w a nm) (h0 : 0 ≤ s) (h1 : s < a 3) (p0 : 0 ≤ p) (p1 : p < 6) (hy : fSailOk a s p → ∀ h', zPw h' w (fSail a s p) nm → zSw w h h' → Q (zRv (zi 1) h')) (hn : ¬ fSailOk a s p → Q (zRv (zi 0) h)) : zCm mX5_sails d [zr (some w), zi s, zi p] h Q := by
  have hw := P.1
  have W := P.2.1
  have h4 := (zIships v).2
  unfold fSailOk at hy hn
  by_cases c1 : 0 < a (148 + 15 * s)
  · have h9 := ((zIsea v s h0 h1).2.1 c1).1
    simp (disch := (first | (simp only [gK_sI, gK_sJ, gK_sR, gK_sIA, gK_sJA, gR_sI, gR_sJ, gR_sIA, Nat.reduceLeDiff, Nat.reduceEqDiff, Nat.reduceLT, Int.reduceLE, Int.reduceLT, Int.reduceEq, zWt_i, zWt_l, zWt_r, zWt_n, W, zWkk W, zWr12 W, zWk12 W, zWr13 W, zWk13 W, zWr14 W, zWk14 W, zWr15 W, zWk15 W] <;> omega) | omega | fail)) only [if_pos, if_neg, wI_id, zLc_lt, zLc_gt, zLc_eq, zLc_le, zLc_ge, Int.reduceEq, Int.reduceLE, Int.reduceLT, Int.reduceNeg, Int.reduceAdd, Int.reduceMul, Int.reduceSub, not_true_eq_false, not_false_eq_true, reduceIte, zPo_v, zPo_n, zPo_t, zKl_i, zKl_r, zKl_n, zKl_l, gK_sI, gK_sJ, gK_sR, gK_sIA, gK_sJA, gR_sI, gR_sJ, gJ_sI, gI_sJ, gI_sR, gJ_sR, gR_sIA, gJ_sIA, Nat.reduceLeDiff, Nat.reduceEqDiff, eX5_sails_0, eX5_sails_1, eX5_sails_2, eX5_sails_5, eX5_sails_8, eX5_sails_9, eX5_sails_10, eX5_sails_13, eX5_sails_14, eX5_sails_15, eX5_sails_18, eX5_sails_19, eX5_sails_22, eX5_sails_24, eX5_sails_25, eX5_sails_28, eX5_sails_29, eX5_sails_30, eX5_sails_31, eX5_sails_32, eX5_sails_33, eX5_sails_34, eX5_sails_37, eX5_sails_38, eX5_sails_39, eX5_sails_40, eX5_sails_43, eX5_sails_44, eX5_sails_45, eX5_sails_48, eX5_sails_50, eX5_sails_51, eX5_sails_54, eX5_sails_55, eX5_sails_56, eX5_sails_57, eX5_sails_58, eX5_sails_59, eX5_sails_60, eX5_sails_61, eX5_sails_62, eX5_sails_65, eX5_sails_66, eX5_sails_67, eX5_sails_68, eX5_sails_69, eX5_sails_in, cX_isAtSea P, c1]
    exact hn (fun h => h.1 h9)
  · obtain ⟨l1, l2, l3, l4, l5⟩ := zPw_lies v P h0 h1 c1
    have hp := zIway v _ p l3 l4 p0 p1
    have p9 := P.2.2.1.2.2.2.2.2.2.2.2.1 _ p l3 l4 p0 p1
    by_cases c2 : a (146 + 15 * s) = p
    · simp (disch := (first | (simp only [gK_sI, gK_sJ, gK_sR, gK_sIA, gK_sJA, gR_sI, gR_sJ, gR_sIA, Nat.reduceLeDiff, Nat.reduceEqDiff, Nat.reduceLT, Int.reduceLE, Int.reduceLT, Int.reduceEq, zWt_i, zWt_l, zWt_r, zWt_n, W, zWkk W, zWr12 W, zWk12 W, zWr13 W, zWk13 W, zWr14 W, zWk14 W, zWr15 W, zWk15 W] <;> omega) | omega | fail)) only [if_pos, if_neg, wI_id, zLc_lt, zLc_gt, zLc_eq, zLc_le, zLc_ge, Int.reduceEq, Int.reduceLE, Int.reduceLT, Int.reduceNeg, Int.reduceAdd, Int.reduceMul, Int.reduceSub, not_true_eq_false, not_false_eq_true, reduceIte, zPo_v, zPo_n, zPo_t, zKl_i, zKl_r, zKl_n, zKl_l, gK_sI, gK_sJ, gK_sR, gK_sIA, gK_sJA, gR_sI, gR_sJ, gJ_sI, gI_sJ, gI_sR, gJ_sR, gR_sIA, gJ_sIA, Nat.reduceLeDiff, Nat.reduceEqDiff, eX5_sails_0, eX5_sails_1, eX5_sails_2, eX5_sails_5, eX5_sails_8, eX5_sails_9, eX5_sails_10, eX5_sails_13, eX5_sails_14, eX5_sails_15, eX5_sails_18, eX5_sails_19, eX5_sails_22, eX5_sails_24, eX5_sails_25, eX5_sails_28, eX5_sails_29, eX5_sails_30, eX5_sails_31, eX5_sails_32, eX5_sails_33, eX5_sails_34, eX5_sails_37, eX5_sails_38, eX5_sails_39, eX5_sails_40, eX5_sails_43, eX5_sails_44, eX5_sails_45, eX5_sails_48, eX5_sails_50, eX5_sails_51, eX5_sails_54, eX5_sails_55, eX5_sails_56, eX5_sails_57, eX5_sails_58, eX5_sails_59, eX5_sails_60, eX5_sails_61, eX5_sails_62, eX5_sails_65, eX5_sails_66, eX5_sails_67, eX5_sails_68, eX5_sails_69, eX5_sails_in, W, zWkk W, zWr12 W, zWk12 W, zWr13 W, zWk13 W, zWr14 W, zWk14 W, zWr15 W, zWk15 W, cX_isAtSea P, c1, l1]
      exact hn (fun h => h.2.1 c2)
    · by_cases c3 : a (65 + 15 * a (146 + 15 * s) + p) = 0
      · simp (disch := (first | (simp only [gK_sI, gK_sJ, gK_sR, gK_sIA, gK_sJA, gR_sI, gR_sJ, gR_sIA, Nat.reduceLeDiff, Nat.reduceEqDiff, Nat.reduceLT, Int.reduceLE, Int.reduceLT, Int.reduceEq, zWt_i, zWt_l, zWt_r, zWt_n, W, zWkk W, zWr12 W, zWk12 W, zWr13 W, zWk13 W, zWr14 W, zWk14 W, zWr15 W, zWk15 W] <;> omega) | omega | fail)) only [if_pos, if_neg, wI_id, zLc_lt, zLc_gt, zLc_eq, zLc_le, zLc_ge, Int.reduceEq, Int.reduceLE, Int.reduceLT, Int.reduceNeg, Int.reduceAdd, Int.reduceMul, Int.reduceSub, not_true_eq_false, not_false_eq_true, reduceIte, zPo_v, zPo_n, zPo_t, zKl_i, zKl_r, zKl_n, zKl_l, gK_sI, gK_sJ, gK_sR, gK_sIA, gK_sJA, gR_sI, gR_sJ, gJ_sI, gI_sJ, gI_sR, gJ_sR, gR_sIA, gJ_sIA, Nat.reduceLeDiff, Nat.reduceEqDiff, eX5_sails_0, eX5_sails_1, eX5_sails_2, eX5_sails_5, eX5_sails_8, eX5_sails_9, eX5_sails_10, eX5_sails_13, eX5_sails_14, eX5_sails_15, eX5_sails_18, eX5_sails_19, eX5_sails_22, eX5_sails_24, eX5_sails_25, eX5_sails_28, eX5_sails_29, eX5_sails_30, eX5_sails_31, eX5_sails_32, eX5_sails_33, eX5_sails_34, eX5_sails_37, eX5_sails_38, eX5_sails_39, eX5_sails_40, eX5_sails_43, eX5_sails_44, eX5_sails_45, eX5_sails_48, eX5_sails_50, eX5_sails_51, eX5_sails_54, eX5_sails_55, eX5_sails_56, eX5_sails_57, eX5_sails_58, eX5_sails_59, eX5_sails_60, eX5_sails_61, eX5_sails_62, eX5_sails_65, eX5_sails_66, eX5_sails_67, eX5_sails_68, eX5_sails_69, eX5_sails_in, W, zWkk W, zWr12 W, zWk12 W, zWr13 W, zWk13 W, zWr14 W, zWk14 W, zWr15 W, zWk15 W, cX_isAtSea P, c1, l1, p9, c3]
        exact hn (fun h => h.2.2 c3)
      · have hy := hy ⟨l2, c2, c3⟩ _ (zPw_sail (p := p) (y := a (65 + 15 * a (146 + 15 * s) + p)) v P h0 h1 (by omega)) (zSw_sI (zSw_sI zSw_rf (by omega) (by omega)) (by omega) (by omega))
        simp (disch := (first | (simp only [gK_sI, gK_sJ, gK_sR, gK_sIA, gK_sJA, gR_sI, gR_sJ, gR_sIA, Nat.reduceLeDiff, Nat.reduceEqDiff, Nat.reduceLT, Int.reduceLE, Int.reduceLT, Int.reduceEq, zWt_i, zWt_l, zWt_r, zWt_n, W, zWkk W, zWr12 W, zWk12 W, zWr13 W, zWk13 W, zWr14 W, zWk14 W, zWr15 W, zWk15 W] <;> omega) | omega | fail)) only [if_pos, if_neg, wI_id, zLc_lt, zLc_gt, zLc_eq, zLc_le, zLc_ge, Int.reduceEq, Int.reduceLE, Int.reduceLT, Int.reduceNeg, Int.reduceAdd, Int.reduceMul, Int.reduceSub, not_true_eq_false, not_false_eq_true, reduceIte, zPo_v, zPo_n, zPo_t, zKl_i, zKl_r, zKl_n, zKl_l, gK_sI, gK_sJ, gK_sR, gK_sIA, gK_sJA, gR_sI, gR_sJ, gJ_sI, gI_sJ, gI_sR, gJ_sR, gR_sIA, gJ_sIA, Nat.reduceLeDiff, Nat.reduceEqDiff, eX5_sails_0, eX5_sails_1, eX5_sails_2, eX5_sails_5, eX5_sails_8, eX5_sails_9, eX5_sails_10, eX5_sails_13, eX5_sails_14, eX5_sails_15, eX5_sails_18, eX5_sails_19, eX5_sails_22, eX5_sails_24, eX5_sails_25, eX5_sails_28, eX5_sails_29, eX5_sails_30, eX5_sails_31, eX5_sails_32, eX5_sails_33, eX5_sails_34, eX5_sails_37, eX5_sails_38, eX5_sails_39, eX5_sails_40, eX5_sails_43, eX5_sails_44, eX5_sails_45, eX5_sails_48, eX5_sails_50, eX5_sails_51, eX5_sails_54, eX5_sails_55, eX5_sails_56, eX5_sails_57, eX5_sails_58, eX5_sails_59, eX5_sails_60, eX5_sails_61, eX5_sails_62, eX5_sails_65, eX5_sails_66, eX5_sails_67, eX5_sails_68, eX5_sails_69, eX5_sails_in, W, zWkk W, zWr12 W, zWk12 W, zWr13 W, zWk13 W, zWr14 W, zWk14 W, zWr15 W, zWk15 W, cX_isAtSea P, c1, l1, p9, c3, gI_sI_ne]
        exact hy
theorem kX_leaks {s : Int} (v : zIv a) (P : zPw h w a nm) (h0 : 0 ≤ s) (h1 : s < 4) (hQ : ∀ h', zPw h' w (fLeak a s) nm → zSw w h h' → Q (zRn h')) : zCm mX5_leaks d [zr (some w), zi s] h Q := by
  have hw := P.1
  have W := P.2.1
  have e1 := P.2.2.1.2.1
  obtain ⟨a0, a1⟩ := (zIgd v).2.1
  have e2 : ∀ g, 0 ≤ g → g < 8 → gI h (w + 14) (8 * s + g) = a (153 + 15 * s + g) := fun g g0 g1 => P.2.2.1.2.2.2.2.2.2.2.2.2.2.2 s g h0 h1 g0 g1
  obtain ⟨N, n1, n2, n3⟩ := P.2.2.2.2.1
  simp (disch := (first | (simp only [gK_sI, gK_sJ, gK_sR, gK_sIA, gK_sJA, gR_sI, gR_sJ, gR_sIA, Nat.reduceLeDiff, Nat.reduceEqDiff, Nat.reduceLT, Int.reduceLE, Int.reduceLT, Int.reduceEq, zWt_i, zWt_l, zWt_r, zWt_n, W, zWkk W, zWr19 W, zWk19 W] <;> omega) | omega | fail)) only [if_pos, if_neg, wI_id, zLc_lt, zLc_gt, zLc_eq, zLc_le, zLc_ge, Int.reduceEq, Int.reduceLE, Int.reduceLT, Int.reduceNeg, Int.reduceAdd, Int.reduceMul, Int.reduceSub, not_true_eq_false, not_false_eq_true, reduceIte, zPo_v, zPo_n, zPo_t, zKl_i, zKl_r, zKl_n, zKl_l, gK_sI, gK_sJ, gK_sR, gK_sIA, gK_sJA, gR_sI, gR_sJ, gJ_sI, gI_sJ, gI_sR, gJ_sR, gR_sIA, gJ_sIA, Nat.reduceLeDiff, Nat.reduceEqDiff, eX5_leaks_0, eX5_leaks_1, eX5_leaks_3, eX5_leaks_4, eX5_leaks_7, eX5_leaks_10, eX5_leaks_11, eX5_leaks_14, eX5_leaks_16, eX5_leaks_17, eX5_leaks_18, eX5_leaks_19, eX5_leaks_20, eX5_leaks_21, eX5_leaks_22, eX5_leaks_25, eX5_leaks_27, eX5_leaks_28, eX5_leaks_29, eX5_leaks_30, eX5_leaks_31, eX5_leaks_32, eX5_leaks_33, eX5_leaks_36, eX5_leaks_37, eX5_leaks_38, eX5_leaks_41, eX5_leaks_42, eX5_leaks_45, eX5_leaks_46, eX5_leaks_49, eX5_leaks_52, eX5_leaks_in]
  refine zLoop (a 1) (fun i ls h' => 0 ≤ i ∧ ∃ f, h' = sIA h (w + 14) f ∧ ls = [some (zr (some w)), some (zi s), some (zi i)] ∧ (∀ g, 0 ≤ g → g < i → f (8 * s + g) = fLk a 1 (fLd a s) g) ∧ ∀ k, (k < 8 * s ∨ 8 * s + i ≤ k) → f k = gI h (w + 14) k) ?_ ?_ 0 _ _ a0 ⟨by omega, gI h (w + 14), sIA_id.symm, rfl, fun j _ _ => by omega, fun k _ => rfl⟩
  · rintro i _ _ hi ⟨hi0, f, rfl, rfl, hf, hg⟩ k
    have W2 : zWk (sIA h (w + 14) f) w := W
    obtain ⟨p, p1, p2, p3, p4, p5, -⟩ := n3 i hi0 hi
    have pw : p ≠ w + 14 := fun e => by
      have h9 := zWk19 W
      rw [← e, p2] at h9
      cases h9
    have hl := (zIgd v).2.2.2 i hi0 (by omega)
    have ht := zIton v s i h0 h1 hi0 (by omega)
    have ef : f (8 * s + i) = a (153 + 15 * s + i) := by rw [hg _ (by omega), e2 i hi0 (by omega)]
    rw [eX5_leaks_2]
    simp (disch := (first | (simp only [gK_sI, gK_sJ, gK_sR, gK_sIA, gK_sJA, gR_sI, gR_sJ, gR_sIA, Nat.reduceLeDiff, Nat.reduceEqDiff, Nat.reduceLT, Int.reduceLE, Int.reduceLT, Int.reduceEq, zWt_i, zWt_l, zWt_r, zWt_n, W2, zWkk W2, zWr19 W2, zWk19 W2, n2, p2] <;> omega) | omega | fail)) only [wI_id, zLc_lt, zLc_gt, zLc_eq, zLc_le, zLc_ge, Int.reduceEq, Int.reduceLE, Int.reduceLT, Int.reduceNeg, Int.reduceAdd, Int.reduceMul, Int.reduceSub, not_true_eq_false, not_false_eq_true, reduceIte, zPo_v, zPo_n, zPo_t, zKl_i, zKl_r, zKl_n, zKl_l, gK_sI, gK_sJ, gK_sR, gK_sIA, gK_sJA, gR_sI, gR_sJ, gJ_sI, gI_sJ, gI_sR, gJ_sR, gR_sIA, gJ_sIA, Nat.reduceLeDiff, Nat.reduceEqDiff, eX5_leaks_0, eX5_leaks_1, eX5_leaks_3, eX5_leaks_4, eX5_leaks_7, eX5_leaks_10, eX5_leaks_11, eX5_leaks_14, eX5_leaks_16, eX5_leaks_17, eX5_leaks_18, eX5_leaks_19, eX5_leaks_20, eX5_leaks_21, eX5_leaks_22, eX5_leaks_25, eX5_leaks_27, eX5_leaks_28, eX5_leaks_29, eX5_leaks_30, eX5_leaks_31, eX5_leaks_32, eX5_leaks_33, eX5_leaks_36, eX5_leaks_37, eX5_leaks_38, eX5_leaks_41, eX5_leaks_42, eX5_leaks_45, eX5_leaks_46, eX5_leaks_49, eX5_leaks_52, eX5_leaks_in, W2, zWkk W2, zWr19 W2, zWk19 W2, e1, n1, n2, p1, p2, p5, gI_sIA_ne, gI_sIA_eq, ef, sIA_sI]
    rw [if_neg (by omega)]
    refine k _ _ ⟨by omega, _, rfl, rfl, fun g g0 g1 => ?_, fun x hx => ?_⟩
    · by_cases e : g = i
      · subst e
        rw [zU_eq]
        unfold fLk fLd
        rw [if_pos hi]
        split <;> omega
      · rw [zU_ne (by omega)]
        exact hf g g0 (by omega)
    · rw [zU_ne (by omega)]
      exact hg x (by omega)
  · rintro _ _ ⟨-, f, rfl, rfl, hf, hg⟩
    have W2 : zWk (sIA h (w + 14) f) w := W
    rw [eX5_leaks_2]
    simp (disch := (first | (simp only [gK_sI, gK_sJ, gK_sR, gK_sIA, gK_sJA, gR_sI, gR_sJ, gR_sIA, Nat.reduceLeDiff, Nat.reduceEqDiff, Nat.reduceLT, Int.reduceLE, Int.reduceLT, Int.reduceEq, zWt_i, zWt_l, zWt_r, zWt_n, W2, zWkk W2, zWr19 W2, zWk19 W2] <;> omega) | omega | fail)) only [if_pos, if_neg, wI_id, zLc_lt, zLc_gt, zLc_eq, zLc_le, zLc_ge, Int.reduceEq, Int.reduceLE, Int.reduceLT, Int.reduceNeg, Int.reduceAdd, Int.reduceMul, Int.reduceSub, not_true_eq_false, not_false_eq_true, reduceIte, zPo_v, zPo_n, zPo_t, zKl_i, zKl_r, zKl_n, zKl_l, gK_sI, gK_sJ, gK_sR, gK_sIA, gK_sJA, gR_sI, gR_sJ, gJ_sI, gI_sJ, gI_sR, gJ_sR, gR_sIA, gJ_sIA, Nat.reduceLeDiff, Nat.reduceEqDiff, eX5_leaks_0, eX5_leaks_1, eX5_leaks_3, eX5_leaks_4, eX5_leaks_7, eX5_leaks_10, eX5_leaks_11, eX5_leaks_14, eX5_leaks_16, eX5_leaks_17, eX5_leaks_18, eX5_leaks_19, eX5_leaks_20, eX5_leaks_21, eX5_leaks_22, eX5_leaks_25, eX5_leaks_27, eX5_leaks_28, eX5_leaks_29, eX5_leaks_30, eX5_leaks_31, eX5_leaks_32, eX5_leaks_33, eX5_leaks_36, eX5_leaks_37, eX5_leaks_38, eX5_leaks_41, eX5_leaks_42, eX5_leaks_45, eX5_leaks_46, eX5_leaks_49, eX5_leaks_52, eX5_leaks_in, e1, gI_sIA_ne]
    refine hQ _ ?_ (zSw_sIA zSw_rf (by omega) (by omega))
    have kk := zWk19 W
    refine zPw_upd v P rfl rfl rfl (fun b hb _ => gI_sIA_ne (fun e => by rw [e, kk] at hb; cases hb)) (fun k hk => fLeak_ne (by unfold zStc at hk; omega)) ?_
    obtain ⟨p0, p1, p2, p3, p4, p5, p6, p7, p8, p9, p10, p11⟩ := P.2.2.1
    have nl : ∀ k, (k < 153 + 15 * s ∨ 161 + 15 * s ≤ k) → fLeak a s k = a k := fun k hk => fLeak_ne hk
    refine ⟨?_, ?_, ?_, ?_, ?_, ?_, fun n n0 n1 => ?_, fun p g p0 p1 g0 g1 => ?_, fun p q p0 p1 q0 q1 => ?_, fun t t0 t1 => ?_, fun t t0 t1 => ?_, fun t g t0 t1 g0 g1 => ?_⟩
    · rw [gI_sIA_ne (by omega), nl _ (by omega)]; exact p0
    · rw [gI_sIA_ne (by omega), nl _ (by omega)]; exact p1
    · rw [gI_sIA_ne (by omega), nl _ (by omega)]; exact p2
    · rw [gI_sIA_ne (by omega), nl _ (by omega)]; exact p3
    · rw [gI_sIA_ne (by omega), nl _ (by omega)]; exact p4
    · rw [gI_sIA_ne (by omega), nl _ (by omega)]; exact p5
    · rw [gI_sIA_ne (by omega), nl _ (by omega)]; exact p6 n n0 n1
    · rw [gI_sIA_ne (by omega), nl _ (by omega)]; exact p7 p g p0 p1 g0 g1
    · rw [gI_sIA_ne (by omega), nl _ (by omega)]; exact p8 p q p0 p1 q0 q1
    · rw [gI_sIA_ne (by omega), gI_sIA_ne (by omega), gI_sIA_ne (by omega), gI_sIA_ne (by omega), nl _ (by omega), nl _ (by omega), nl _ (by omega), nl _ (by omega)]
      exact p9 t t0 t1
    · have h4 := (zIships v).2
      rw [nl 3 (by omega)] at t1
      rw [gI_sIA_ne (by omega), gI_sIA_ne (by omega), nl _ (by omega), nl _ (by omega), nl _ (by omega)]
      exact p10 t t0 t1
    · rw [gI_sIA_eq]
      by_cases e : t = s
      · subst e
        rw [fLeak_at g0 g1]
        by_cases eg : g < a 1
        · exact hf g g0 eg
        · rw [hg _ (by omega), e2 g g0 g1]
          unfold fLk fLd
          rw [if_neg eg]
      · rw [nl _ (by omega), hg _ (by omega)]
        exact p11 t g t0 t1 g0 g1
theorem kX_pays {s : Int} (v : zIv a) (P : zPw h w a nm) (h0 : 0 ≤ s) (h1 : s < a 3) (hs : a (146 + 15 * s) = -1) (hQ : ∀ h', zPw h' w (fPay a s) nm → zSw w h h' → Q (zRn h')) : zCm mX5_pays d [zr (some w), zi s] h Q := by
  have hw := P.1
  have h4 := (zIships v).2
  have hc := zIcoin v s h0 h1
  have hb := fFl_b (a := a) (s := s)
  have W0 := P.2.1
  simp (disch := (first | (simp only [gK_sI, gK_sJ, gK_sR, gK_sIA, gK_sJA, gR_sI, gR_sJ, gR_sIA, Nat.reduceLeDiff, Nat.reduceEqDiff, Nat.reduceLT, Int.reduceLE, Int.reduceLT, Int.reduceEq, zWt_i, zWt_l, zWt_r, zWt_n, W0, zWkk W0, zWr16 W0, zWk16 W0, zWr17 W0, zWk17 W0] <;> omega) | omega | fail)) only [if_pos, if_neg, wI_id, zLc_lt, zLc_gt, zLc_eq, zLc_le, zLc_ge, Int.reduceEq, Int.reduceLE, Int.reduceLT, Int.reduceNeg, Int.reduceAdd, Int.reduceMul, Int.reduceSub, not_true_eq_false, not_false_eq_true, reduceIte, zPo_v, zPo_n, zPo_t, zKl_i, zKl_r, zKl_n, zKl_l, gK_sI, gK_sJ, gK_sR, gK_sIA, gK_sJA, gR_sI, gR_sJ, gJ_sI, gI_sJ, gI_sR, gJ_sR, gR_sIA, gJ_sIA, Nat.reduceLeDiff, Nat.reduceEqDiff, eX5_pays_0, eX5_pays_1, eX5_pays_2, eX5_pays_5, eX5_pays_6, eX5_pays_7, eX5_pays_10, eX5_pays_11, eX5_pays_14, eX5_pays_15, eX5_pays_18, eX5_pays_19, eX5_pays_20, eX5_pays_23, eX5_pays_24, eX5_pays_25, eX5_pays_26, eX5_pays_29, eX5_pays_30, eX5_pays_31, eX5_pays_34, eX5_pays_35, eX5_pays_38, eX5_pays_39, eX5_pays_40, eX5_pays_41, eX5_pays_42, eX5_pays_43, eX5_pays_44, eX5_pays_47, eX5_pays_48, eX5_pays_51, eX5_pays_52, eX5_pays_53, eX5_pays_54, eX5_pays_55, eX5_pays_56, eX5_pays_57, eX5_pays_in]
  refine kX_ruled v P h0 (by omega) (fun h' P' S => ?_)
  have W := P'.2.1
  obtain ⟨-, c9, c8, -⟩ := P'.2.2.1.2.2.2.2.2.2.2.2.2.1 s h0 (by omega)
  by_cases c1 : fFl a s = -1
  · have P2 := zPw_coin (x := a (150 + 15 * s)) v P' h0 (by omega)
    rw [zU_self] at P2
    have e9 : fPay a s = a := by
      unfold fPay
      rw [if_neg (by omega)]
    rw [e9] at hQ
    simp (disch := (first | (simp only [gK_sI, gK_sJ, gK_sR, gK_sIA, gK_sJA, gR_sI, gR_sJ, gR_sIA, Nat.reduceLeDiff, Nat.reduceEqDiff, Nat.reduceLT, Int.reduceLE, Int.reduceLT, Int.reduceEq, zWt_i, zWt_l, zWt_r, zWt_n, W, zWkk W, zWr16 W, zWk16 W, zWr17 W, zWk17 W] <;> omega) | omega | fail)) only [if_pos, if_neg, wI_id, zLc_lt, zLc_gt, zLc_eq, zLc_le, zLc_ge, Int.reduceEq, Int.reduceLE, Int.reduceLT, Int.reduceNeg, Int.reduceAdd, Int.reduceMul, Int.reduceSub, not_true_eq_false, not_false_eq_true, reduceIte, zPo_v, zPo_n, zPo_t, zKl_i, zKl_r, zKl_n, zKl_l, gK_sI, gK_sJ, gK_sR, gK_sIA, gK_sJA, gR_sI, gR_sJ, gJ_sI, gI_sJ, gI_sR, gJ_sR, gR_sIA, gJ_sIA, Nat.reduceLeDiff, Nat.reduceEqDiff, eX5_pays_0, eX5_pays_1, eX5_pays_2, eX5_pays_5, eX5_pays_6, eX5_pays_7, eX5_pays_10, eX5_pays_11, eX5_pays_14, eX5_pays_15, eX5_pays_18, eX5_pays_19, eX5_pays_20, eX5_pays_23, eX5_pays_24, eX5_pays_25, eX5_pays_26, eX5_pays_29, eX5_pays_30, eX5_pays_31, eX5_pays_34, eX5_pays_35, eX5_pays_38, eX5_pays_39, eX5_pays_40, eX5_pays_41, eX5_pays_42, eX5_pays_43, eX5_pays_44, eX5_pays_47, eX5_pays_48, eX5_pays_51, eX5_pays_52, eX5_pays_53, eX5_pays_54, eX5_pays_55, eX5_pays_56, eX5_pays_57, eX5_pays_in, W, zWkk W, zWr16 W, zWk16 W, zWr17 W, zWk17 W, c1, c9]
    exact hQ _ (by simpa using P2) (zSw_sI S (by omega) (by omega))
  · obtain ⟨N, n1, n2, n3⟩ := P'.2.2.2.1
    have hf := fFl_sub (s := s) v
    obtain ⟨p, p1, p2, p3, p4, p5, -⟩ := n3 (fFl a s) (by omega) (by omega)
    have hn := (zInat v (fFl a s) (by omega) (by omega)).1
    have h6 := (zIgd v).1.2
    by_cases c2 : a (150 + 15 * s) < a (8 + 4 * fFl a s)
    · have P2 := zPw_unp (x := wI (a (151 + 15 * s) + 1)) v P' h0 (by omega)
      have e9 : fPay a s = zU a (151 + 15 * s) (wI (a (151 + 15 * s) + 1)) := by
        unfold fPay
        rw [if_pos ⟨hs, c1⟩, if_pos c2]
      rw [e9] at hQ
      simp (disch := (first | (simp only [gK_sI, gK_sJ, gK_sR, gK_sIA, gK_sJA, gR_sI, gR_sJ, gR_sIA, Nat.reduceLeDiff, Nat.reduceEqDiff, Nat.reduceLT, Int.reduceLE, Int.reduceLT, Int.reduceEq, zWt_i, zWt_l, zWt_r, zWt_n, W, zWkk W, zWr16 W, zWk16 W, zWr17 W, zWk17 W, n2, p2] <;> omega) | omega | fail)) only [if_pos, if_neg, wI_id, zLc_lt, zLc_gt, zLc_eq, zLc_le, zLc_ge, Int.reduceEq, Int.reduceLE, Int.reduceLT, Int.reduceNeg, Int.reduceAdd, Int.reduceMul, Int.reduceSub, not_true_eq_false, not_false_eq_true, reduceIte, zPo_v, zPo_n, zPo_t, zKl_i, zKl_r, zKl_n, zKl_l, gK_sI, gK_sJ, gK_sR, gK_sIA, gK_sJA, gR_sI, gR_sJ, gJ_sI, gI_sJ, gI_sR, gJ_sR, gR_sIA, gJ_sIA, Nat.reduceLeDiff, Nat.reduceEqDiff, eX5_pays_0, eX5_pays_1, eX5_pays_2, eX5_pays_5, eX5_pays_6, eX5_pays_7, eX5_pays_10, eX5_pays_11, eX5_pays_14, eX5_pays_15, eX5_pays_18, eX5_pays_19, eX5_pays_20, eX5_pays_23, eX5_pays_24, eX5_pays_25, eX5_pays_26, eX5_pays_29, eX5_pays_30, eX5_pays_31, eX5_pays_34, eX5_pays_35, eX5_pays_38, eX5_pays_39, eX5_pays_40, eX5_pays_41, eX5_pays_42, eX5_pays_43, eX5_pays_44, eX5_pays_47, eX5_pays_48, eX5_pays_51, eX5_pays_52, eX5_pays_53, eX5_pays_54, eX5_pays_55, eX5_pays_56, eX5_pays_57, eX5_pays_in, W, zWkk W, zWr16 W, zWk16 W, zWr17 W, zWk17 W, c9, c8, n1, n2, p1, p2, p3]
      exact hQ _ P2 (zSw_sI S (by omega) (by omega))
    · have P2 := zPw_coin (x := a (150 + 15 * s) - a (8 + 4 * fFl a s)) v P' h0 (by omega)
      have e9 : fPay a s = zU a (150 + 15 * s) (a (150 + 15 * s) - a (8 + 4 * fFl a s)) := by
        unfold fPay
        rw [if_pos ⟨hs, c1⟩, if_neg c2]
      rw [e9] at hQ
      simp (disch := (first | (simp only [gK_sI, gK_sJ, gK_sR, gK_sIA, gK_sJA, gR_sI, gR_sJ, gR_sIA, Nat.reduceLeDiff, Nat.reduceEqDiff, Nat.reduceLT, Int.reduceLE, Int.reduceLT, Int.reduceEq, zWt_i, zWt_l, zWt_r, zWt_n, W, zWkk W, zWr16 W, zWk16 W, zWr17 W, zWk17 W, n2, p2] <;> omega) | omega | fail)) only [if_pos, if_neg, wI_id, zLc_lt, zLc_gt, zLc_eq, zLc_le, zLc_ge, Int.reduceEq, Int.reduceLE, Int.reduceLT, Int.reduceNeg, Int.reduceAdd, Int.reduceMul, Int.reduceSub, not_true_eq_false, not_false_eq_true, reduceIte, zPo_v, zPo_n, zPo_t, zKl_i, zKl_r, zKl_n, zKl_l, gK_sI, gK_sJ, gK_sR, gK_sIA, gK_sJA, gR_sI, gR_sJ, gJ_sI, gI_sJ, gI_sR, gJ_sR, gR_sIA, gJ_sIA, Nat.reduceLeDiff, Nat.reduceEqDiff, eX5_pays_0, eX5_pays_1, eX5_pays_2, eX5_pays_5, eX5_pays_6, eX5_pays_7, eX5_pays_10, eX5_pays_11, eX5_pays_14, eX5_pays_15, eX5_pays_18, eX5_pays_19, eX5_pays_20, eX5_pays_23, eX5_pays_24, eX5_pays_25, eX5_pays_26, eX5_pays_29, eX5_pays_30, eX5_pays_31, eX5_pays_34, eX5_pays_35, eX5_pays_38, eX5_pays_39, eX5_pays_40, eX5_pays_41, eX5_pays_42, eX5_pays_43, eX5_pays_44, eX5_pays_47, eX5_pays_48, eX5_pays_51, eX5_pays_52, eX5_pays_53, eX5_pays_54, eX5_pays_55, eX5_pays_56, eX5_pays_57, eX5_pays_in, W, zWkk W, zWr16 W, zWk16 W, zWr17 W, zWk17 W, c9, c8, n1, n2, p1, p2, p3]
      exact hQ _ P2 (zSw_sI S (by omega) (by omega))
end X5
