/-! ===== BOTH SIDES JOINED, 5: marks ===== -/
set_option maxRecDepth 100000
theorem zIv_cg {a b : Int → Int} (e : ∀ k, 0 ≤ k → k < 206 → b k = a k) (v : zIv a) : zIv b := by
  obtain ⟨v1, v2, v3, v4, v5, v6, v7, v8, v9, v10, v11, v12, v13, v14, v15, v16⟩ := v
  have e0 := e 0 (by omega) (by omega)
  have e1 := e 1 (by omega) (by omega)
  have e2 := e 2 (by omega) (by omega)
  have e3 := e 3 (by omega) (by omega)
  have g0 := v1.1
  have g1 := v1.2.1
  refine ⟨?_, by rw [e2]; exact v2, by rw [e3]; exact v3, by rw [e 4 (by omega) (by omega)]; exact v4, by rw [e 5 (by omega) (by omega)]; exact v5, fun n n0 n1 => ?_, fun n n0 n1 => ?_, fun g g0 g1 => ?_, fun p p0 p1 => ?_, fun p g p0 p1 g0 g1 => ?_, fun p q p0 p1 q0 q1 => ?_, fun s s0 s1 => ?_, fun s s0 s1 => ?_, fun s s0 s1 => ?_, fun s g s0 s1 g0 g1 => ?_, fun s s0 s1 => ?_⟩
  · obtain ⟨w1, w2, w3, w4⟩ := v1
    exact ⟨by rw [e0]; exact w1, by rw [e1]; exact w2, fun g g0 g1 => by rw [e _ (by omega) (by omega)]; exact w3 g g0 g1, fun g g0 g1 => by rw [e _ (by omega) (by omega)]; exact w4 g g0 g1⟩
  · rw [e0] at n1
    rw [e _ (by omega) (by omega), e _ (by omega) (by omega), e _ (by omega) (by omega)]
    exact v6 n n0 n1
  · rw [e _ (by omega) (by omega)]
    exact v7 n n0 n1
  · rw [e1] at g1
    rw [e _ (by omega) (by omega), e0]
    exact v8 g g0 g1
  · rw [e2] at p1
    rw [e _ (by omega) (by omega), e0]
    exact v9 p p0 p1
  · rw [e _ (by omega) (by omega)]
    exact v10 p g p0 p1 g0 g1
  · rw [e _ (by omega) (by omega), e _ (by omega) (by omega)]
    exact v11 p q p0 p1 q0 q1
  · rw [e3] at s1
    rw [e2, e _ (by omega) (by omega), e _ (by omega) (by omega), e _ (by omega) (by omega)]
    exact v12 s s0 s1
  · rw [e3] at s1
    rw [e _ (by omega) (by omega)]
    exact v13 s s0 s1
  · rw [e3] at s1
    rw [e _ (by omega) (by omega)]
    exact v14 s s0 s1
  · rw [e1, e _ (by omega) (by omega)]
    exact v15 s g s0 s1 g0 g1
  · rw [e3] at s1
    rw [e _ (by omega) (by omega), fTons_congr (zEq8_of (a := a) (fun k k0 k1 => e k (by omega) (by omega)))]
    exact v16 s s0 s1
theorem zPw_cg {h : zHp} {w : Nat} {a b nm mn : Int → Int} (v : zIv a) (e : ∀ k, 0 ≤ k → k < 206 → b k = a k) (en : ∀ k, 0 ≤ k → k < 24 → mn k = nm k) (P : zPw h w a nm) : zPw h w b mn := by
  obtain ⟨hw, W, ⟨p0, p1, p2, p3, p4, p5, p6, p7, p8, p9, p10, p11⟩, o1, o2, o3, o4⟩ := P
  have b0 := (zIgd v).1
  have b1 := (zIgd v).2.1
  have b2 := zIports v
  have b3 := zIships v
  have e0 := e 0 (by omega) (by omega)
  have e1 := e 1 (by omega) (by omega)
  have e2 := e 2 (by omega) (by omega)
  have e3 := e 3 (by omega) (by omega)
  refine ⟨hw, W, ⟨by rw [e0]; exact p0, by rw [e1]; exact p1, by rw [e2]; exact p2, by rw [e3]; exact p3, by rw [e 4 (by omega) (by omega)]; exact p4, by rw [e 5 (by omega) (by omega)]; exact p5, fun n n0 n1 => ?_, fun p g p0 p1 g0 g1 => ?_, fun p q p0 p1 q0 q1 => ?_, fun t t0 t1 => ?_, fun t t0 t1 => ?_, fun t g t0 t1 g0 g1 => ?_⟩, ?_, ?_, ?_, ?_⟩
  · rw [e _ (by omega) (by omega)]
    exact p6 n n0 n1
  · rw [e _ (by omega) (by omega)]
    exact p7 p g p0 p1 g0 g1
  · rw [e _ (by omega) (by omega)]
    exact p8 p q p0 p1 q0 q1
  · rw [e _ (by omega) (by omega), e _ (by omega) (by omega), e _ (by omega) (by omega), e _ (by omega) (by omega)]
    exact p9 t t0 t1
  · rw [e3] at t1
    rw [e _ (by omega) (by omega), e _ (by omega) (by omega), e _ (by omega) (by omega)]
    exact p10 t t0 t1
  · rw [e _ (by omega) (by omega)]
    exact p11 t g t0 t1 g0 g1
  · obtain ⟨N, n1, n2, n3⟩ := o1
    refine ⟨N, n1, n2, fun k k0 k1 => ?_⟩
    rw [e0] at k1
    rw [e _ (by omega) (by omega), e _ (by omega) (by omega), e _ (by omega) (by omega), en _ (by omega) (by omega)]
    exact n3 k k0 k1
  · obtain ⟨N, n1, n2, n3⟩ := o2
    refine ⟨N, n1, n2, fun k k0 k1 => ?_⟩
    rw [e1] at k1
    rw [e _ (by omega) (by omega), e _ (by omega) (by omega), e _ (by omega) (by omega), en _ (by omega) (by omega)]
    exact n3 k k0 k1
  · obtain ⟨N, n1, n2, n3⟩ := o3
    refine ⟨N, n1, n2, fun k k0 k1 => ?_⟩
    rw [e2] at k1
    rw [e _ (by omega) (by omega), en _ (by omega) (by omega)]
    exact n3 k k0 k1
  · obtain ⟨N, n1, n2, n3⟩ := o4
    refine ⟨N, n1, n2, fun k k0 k1 => ?_⟩
    rw [e3] at k1
    rw [e _ (by omega) (by omega), en _ (by omega) (by omega)]
    exact n3 k k0 k1
/-- slots and names that are copied -/
def fCps (a : Int → Int) (n x y : Int) : Int → Int := fun k => if n * y ≤ k ∧ k < n * y + n then a (n * x + (k - n * y)) else a k
section J5
variable {d : Nat} {h : zHp} {Q : zRs → Prop}
theorem kM_copies {x y : Int} (P : zMk h) (x0 : 0 ≤ x) (x1 : x ≤ 3) (y0 : 0 ≤ y) (y1 : y ≤ 3) (ne : x ≠ y) (hQ : Q (zRn (sJA (sIA h 114 (fCps (gI h 114) 572 x y)) 115 (fCps (gJ h 115) 24 x y)))) : zCm mX6_copies d [zr (some 113), zi x, zi y] h Q := by
  have sJAs : ∀ (h9 : zHp) F j v, sJ (sJA h9 115 F) 115 j v = sJA h9 115 (zU F j v) := fun h9 F j v => by
    unfold sJ sJA gJ
    simp only [if_pos]
    congr 1
    congr 1
    congr 1
    congr 1
    funext c
    by_cases e : c = 115 <;> simp [e]
  have gJAe : ∀ (h9 : zHp) F, gJ (sJA h9 115 F) 115 = F := fun h9 F => (show (if (115 : Nat) = 115 then F else gJ h9 115) = F from if_pos rfl)
  have sJid : ∀ h9 : zHp, sJA h9 115 (gJ h9 115) = h9 := fun h9 => by
    obtain ⟨u1, u2, u3, u4, u5⟩ := h9
    unfold sJA gJ
    dsimp only
    congr 1
    congr 1
    congr 1
    congr 1
    funext c
    by_cases e : c = 115 <;> simp [e]
  simp (disch := (first | (simp only [gK_sI, gK_sJ, gK_sR, gK_sIA, gK_sJA, gR_sI, gR_sJ, gR_sIA, Nat.reduceLeDiff, Nat.reduceEqDiff, Nat.reduceLT, Int.reduceLE, Int.reduceLT, Int.reduceEq, zWt_i, zWt_l, zWt_r, zWt_n, P, zMkk P, zMr0 P, zMk0 P, zMr1 P, zMk1 P] <;> omega) | omega | fail)) only [if_pos, if_neg, wI_id, zLc_lt, zLc_gt, zLc_eq, zLc_le, zLc_ge, Int.reduceEq, Int.reduceLE, Int.reduceLT, Int.reduceNeg, Int.reduceAdd, Int.reduceMul, Int.reduceSub, not_true_eq_false, not_false_eq_true, reduceIte, zPo_v, zPo_n, zPo_t, zKl_i, zKl_r, zKl_n, zKl_l, gK_sI, gK_sJ, gK_sR, gK_sIA, gK_sJA, gR_sI, gR_sJ, gJ_sI, gI_sJ, gI_sR, gJ_sR, gR_sIA, gJ_sIA, Nat.reduceLeDiff, Nat.reduceEqDiff, and_self, and_true, true_and, and_false, false_and, eX6_copies_0, eX6_copies_1, eX6_copies_3, eX6_copies_6, eX6_copies_9, eX6_copies_10, eX6_copies_13, eX6_copies_16, eX6_copies_17, eX6_copies_18, eX6_copies_19, eX6_copies_20, eX6_copies_21, eX6_copies_24, eX6_copies_27, eX6_copies_28, eX6_copies_29, eX6_copies_30, eX6_copies_31, eX6_copies_32, eX6_copies_33, eX6_copies_36, eX6_copies_39, eX6_copies_40, eX6_copies_42, eX6_copies_44, eX6_copies_47, eX6_copies_48, eX6_copies_51, eX6_copies_53, eX6_copies_54, eX6_copies_55, eX6_copies_56, eX6_copies_57, eX6_copies_58, eX6_copies_61, eX6_copies_63, eX6_copies_64, eX6_copies_65, eX6_copies_66, eX6_copies_67, eX6_copies_68, eX6_copies_69, eX6_copies_72, eX6_copies_75, eX6_copies_in]
  refine zLoop 572 (fun i ls h' => 0 ≤ i ∧ ls = [some (zr (some 113)), some (zi x), some (zi y), some (zi i)] ∧ h' = sIA h 114 (fun k => if 572 * y ≤ k ∧ k < 572 * y + i then gI h 114 (572 * x + (k - 572 * y)) else gI h 114 k)) ?_ ?_ 0 _ _ (by omega) ⟨by omega, rfl, ?_⟩
  · rintro i _ _ hi ⟨hi0, rfl, rfl⟩ k
    have er : (if 572 * y ≤ 572 * x + i ∧ 572 * x + i < 572 * y + i then gI h 114 (572 * x + (572 * x + i - 572 * y)) else gI h 114 (572 * x + i)) = gI h 114 (572 * x + i) := if_neg (by omega)
    rw [eX6_copies_2]
    simp (disch := (first | (simp only [gK_sI, gK_sJ, gK_sR, gK_sIA, gK_sJA, gR_sI, gR_sJ, gR_sIA, Nat.reduceLeDiff, Nat.reduceEqDiff, Nat.reduceLT, Int.reduceLE, Int.reduceLT, Int.reduceEq, zWt_i, zWt_l, zWt_r, zWt_n, P, zMkk P, zMr0 P, zMk0 P, zMr1 P, zMk1 P] <;> omega) | omega | fail)) only [wI_id, zLc_lt, zLc_gt, zLc_eq, zLc_le, zLc_ge, Int.reduceEq, Int.reduceLE, Int.reduceLT, Int.reduceNeg, Int.reduceAdd, Int.reduceMul, Int.reduceSub, not_true_eq_false, not_false_eq_true, reduceIte, zPo_v, zPo_n, zPo_t, zKl_i, zKl_r, zKl_n, zKl_l, gK_sI, gK_sJ, gK_sR, gK_sIA, gK_sJA, gR_sI, gR_sJ, gJ_sI, gI_sJ, gI_sR, gJ_sR, gR_sIA, gJ_sIA, Nat.reduceLeDiff, Nat.reduceEqDiff, and_self, and_true, true_and, and_false, false_and, eX6_copies_0, eX6_copies_1, eX6_copies_3, eX6_copies_6, eX6_copies_9, eX6_copies_10, eX6_copies_13, eX6_copies_16, eX6_copies_17, eX6_copies_18, eX6_copies_19, eX6_copies_20, eX6_copies_21, eX6_copies_24, eX6_copies_27, eX6_copies_28, eX6_copies_29, eX6_copies_30, eX6_copies_31, eX6_copies_32, eX6_copies_33, eX6_copies_36, eX6_copies_39, eX6_copies_40, eX6_copies_42, eX6_copies_44, eX6_copies_47, eX6_copies_48, eX6_copies_51, eX6_copies_53, eX6_copies_54, eX6_copies_55, eX6_copies_56, eX6_copies_57, eX6_copies_58, eX6_copies_61, eX6_copies_63, eX6_copies_64, eX6_copies_65, eX6_copies_66, eX6_copies_67, eX6_copies_68, eX6_copies_69, eX6_copies_72, eX6_copies_75, eX6_copies_in, P, zMkk P, zMr0 P, zMk0 P, zMr1 P, zMk1 P, gI_sIA_eq, sIA_sI]
    rw [if_neg (by omega), er]
    refine k _ _ ⟨by omega, rfl, ?_⟩
    congr 1
    funext z
    unfold zU
    by_cases c : z = 572 * y + i
    · rw [if_pos c, if_pos (by omega), c]
      congr 1
      omega
    · rw [if_neg c]
      show (if 572 * y ≤ z ∧ z < 572 * y + i then gI h 114 (572 * x + (z - 572 * y)) else gI h 114 z) = _
      by_cases c2 : 572 * y ≤ z ∧ z < 572 * y + i
      · rw [if_pos c2, if_pos (by omega)]
      · rw [if_neg c2, if_neg (by omega)]
  · rintro _ _ ⟨-, rfl, rfl⟩
    have eF : (fun k => if 572 * y ≤ k ∧ k < 572 * y + 572 then gI h 114 (572 * x + (k - 572 * y)) else gI h 114 k) = fCps (gI h 114) 572 x y := rfl
    rw [eF]
    generalize hh1 : sIA h 114 (fCps (gI h 114) 572 x y) = h1 at hQ ⊢
    have P1 : zMk h1 := by rw [← hh1]; exact P
    have ej : gJ h 115 = gJ h1 115 := by rw [← hh1]; rfl
    rw [ej] at hQ
    rw [eX6_copies_2]
    simp (disch := (first | (simp only [gK_sI, gK_sJ, gK_sR, gK_sIA, gK_sJA, gR_sI, gR_sJ, gR_sIA, Nat.reduceLeDiff, Nat.reduceEqDiff, Nat.reduceLT, Int.reduceLE, Int.reduceLT, Int.reduceEq, zWt_i, zWt_l, zWt_r, zWt_n, P1, zMkk P1, zMr0 P1, zMk0 P1, zMr1 P1, zMk1 P1] <;> omega) | omega | fail)) only [if_pos, if_neg, wI_id, zLc_lt, zLc_gt, zLc_eq, zLc_le, zLc_ge, Int.reduceEq, Int.reduceLE, Int.reduceLT, Int.reduceNeg, Int.reduceAdd, Int.reduceMul, Int.reduceSub, not_true_eq_false, not_false_eq_true, reduceIte, zPo_v, zPo_n, zPo_t, zKl_i, zKl_r, zKl_n, zKl_l, gK_sI, gK_sJ, gK_sR, gK_sIA, gK_sJA, gR_sI, gR_sJ, gJ_sI, gI_sJ, gI_sR, gJ_sR, gR_sIA, gJ_sIA, Nat.reduceLeDiff, Nat.reduceEqDiff, and_self, and_true, true_and, and_false, false_and, eX6_copies_0, eX6_copies_1, eX6_copies_3, eX6_copies_6, eX6_copies_9, eX6_copies_10, eX6_copies_13, eX6_copies_16, eX6_copies_17, eX6_copies_18, eX6_copies_19, eX6_copies_20, eX6_copies_21, eX6_copies_24, eX6_copies_27, eX6_copies_28, eX6_copies_29, eX6_copies_30, eX6_copies_31, eX6_copies_32, eX6_copies_33, eX6_copies_36, eX6_copies_39, eX6_copies_40, eX6_copies_42, eX6_copies_44, eX6_copies_47, eX6_copies_48, eX6_copies_51, eX6_copies_53, eX6_copies_54, eX6_copies_55, eX6_copies_56, eX6_copies_57, eX6_copies_58, eX6_copies_61, eX6_copies_63, eX6_copies_64, eX6_copies_65, eX6_copies_66, eX6_copies_67, eX6_copies_68, eX6_copies_69, eX6_copies_72, eX6_copies_75, eX6_copies_in]
    refine zLoop 24 (fun i ls h' => 0 ≤ i ∧ ls = [some (zr (some 113)), some (zi x), some (zi y), some (zi i)] ∧ h' = sJA h1 115 (fun k => if 24 * y ≤ k ∧ k < 24 * y + i then gJ h1 115 (24 * x + (k - 24 * y)) else gJ h1 115 k)) ?_ ?_ 0 _ _ (by omega) ⟨by omega, rfl, ?_⟩
    · rintro i _ _ hi ⟨hi0, rfl, rfl⟩ k
      have er : (if 24 * y ≤ 24 * x + i ∧ 24 * x + i < 24 * y + i then gJ h1 115 (24 * x + (24 * x + i - 24 * y)) else gJ h1 115 (24 * x + i)) = gJ h1 115 (24 * x + i) := if_neg (by omega)
      rw [eX6_copies_41]
      simp (disch := (first | (simp only [gK_sI, gK_sJ, gK_sR, gK_sIA, gK_sJA, gR_sI, gR_sJ, gR_sIA, Nat.reduceLeDiff, Nat.reduceEqDiff, Nat.reduceLT, Int.reduceLE, Int.reduceLT, Int.reduceEq, zWt_i, zWt_l, zWt_r, zWt_n, P1, zMkk P1, zMr0 P1, zMk0 P1, zMr1 P1, zMk1 P1] <;> omega) | omega | fail)) only [wI_id, zLc_lt, zLc_gt, zLc_eq, zLc_le, zLc_ge, Int.reduceEq, Int.reduceLE, Int.reduceLT, Int.reduceNeg, Int.reduceAdd, Int.reduceMul, Int.reduceSub, not_true_eq_false, not_false_eq_true, reduceIte, zPo_v, zPo_n, zPo_t, zKl_i, zKl_r, zKl_n, zKl_l, gK_sI, gK_sJ, gK_sR, gK_sIA, gK_sJA, gR_sI, gR_sJ, gJ_sI, gI_sJ, gI_sR, gJ_sR, gR_sIA, gJ_sIA, Nat.reduceLeDiff, Nat.reduceEqDiff, and_self, and_true, true_and, and_false, false_and, eX6_copies_0, eX6_copies_1, eX6_copies_3, eX6_copies_6, eX6_copies_9, eX6_copies_10, eX6_copies_13, eX6_copies_16, eX6_copies_17, eX6_copies_18, eX6_copies_19, eX6_copies_20, eX6_copies_21, eX6_copies_24, eX6_copies_27, eX6_copies_28, eX6_copies_29, eX6_copies_30, eX6_copies_31, eX6_copies_32, eX6_copies_33, eX6_copies_36, eX6_copies_39, eX6_copies_40, eX6_copies_42, eX6_copies_44, eX6_copies_47, eX6_copies_48, eX6_copies_51, eX6_copies_53, eX6_copies_54, eX6_copies_55, eX6_copies_56, eX6_copies_57, eX6_copies_58, eX6_copies_61, eX6_copies_63, eX6_copies_64, eX6_copies_65, eX6_copies_66, eX6_copies_67, eX6_copies_68, eX6_copies_69, eX6_copies_72, eX6_copies_75, eX6_copies_in, P1, zMkk P1, zMr0 P1, zMk0 P1, zMr1 P1, zMk1 P1, gR_sJA, gJAe, sJAs]
      rw [if_neg (by omega), er]
      refine k _ _ ⟨by omega, rfl, ?_⟩
      congr 1
      funext z
      unfold zU
      by_cases c : z = 24 * y + i
      · rw [if_pos c, if_pos (by omega), c]
        congr 1
        omega
      · rw [if_neg c]
        show (if 24 * y ≤ z ∧ z < 24 * y + i then gJ h1 115 (24 * x + (z - 24 * y)) else gJ h1 115 z) = _
        by_cases c2 : 24 * y ≤ z ∧ z < 24 * y + i
        · rw [if_pos c2, if_pos (by omega)]
        · rw [if_neg c2, if_neg (by omega)]
    · rintro _ _ ⟨-, rfl, rfl⟩
      rw [eX6_copies_41]
      simp (disch := (first | (simp only [gK_sI, gK_sJ, gK_sR, gK_sIA, gK_sJA, gR_sI, gR_sJ, gR_sIA, Nat.reduceLeDiff, Nat.reduceEqDiff, Nat.reduceLT, Int.reduceLE, Int.reduceLT, Int.reduceEq, zWt_i, zWt_l, zWt_r, zWt_n, P1, zMkk P1, zMr0 P1, zMk0 P1, zMr1 P1, zMk1 P1] <;> omega) | omega | fail)) only [if_pos, if_neg, wI_id, zLc_lt, zLc_gt, zLc_eq, zLc_le, zLc_ge, Int.reduceEq, Int.reduceLE, Int.reduceLT, Int.reduceNeg, Int.reduceAdd, Int.reduceMul, Int.reduceSub, not_true_eq_false, not_false_eq_true, reduceIte, zPo_v, zPo_n, zPo_t, zKl_i, zKl_r, zKl_n, zKl_l, gK_sI, gK_sJ, gK_sR, gK_sIA, gK_sJA, gR_sI, gR_sJ, gJ_sI, gI_sJ, gI_sR, gJ_sR, gR_sIA, gJ_sIA, Nat.reduceLeDiff, Nat.reduceEqDiff, and_self, and_true, true_and, and_false, false_and, eX6_copies_0, eX6_copies_1, eX6_copies_3, eX6_copies_6, eX6_copies_9, eX6_copies_10, eX6_copies_13, eX6_copies_16, eX6_copies_17, eX6_copies_18, eX6_copies_19, eX6_copies_20, eX6_copies_21, eX6_copies_24, eX6_copies_27, eX6_copies_28, eX6_copies_29, eX6_copies_30, eX6_copies_31, eX6_copies_32, eX6_copies_33, eX6_copies_36, eX6_copies_39, eX6_copies_40, eX6_copies_42, eX6_copies_44, eX6_copies_47, eX6_copies_48, eX6_copies_51, eX6_copies_53, eX6_copies_54, eX6_copies_55, eX6_copies_56, eX6_copies_57, eX6_copies_58, eX6_copies_61, eX6_copies_63, eX6_copies_64, eX6_copies_65, eX6_copies_66, eX6_copies_67, eX6_copies_68, eX6_copies_69, eX6_copies_72, eX6_copies_75, eX6_copies_in]
      exact hQ
    · have e9 : (fun k => if 24 * y ≤ k ∧ k < 24 * y + 0 then gJ h1 115 (24 * x + (k - 24 * y)) else gJ h1 115 k) = gJ h1 115 := by
        funext k
        rw [if_neg (by omega)]
      rw [e9, sJid]
  · have e9 : (fun k => if 572 * y ≤ k ∧ k < 572 * y + 0 then gI h 114 (572 * x + (k - 572 * y)) else gI h 114 k) = gI h 114 := by
      funext k
      rw [if_neg (by omega)]
    rw [e9, sIA_id]
end J5
