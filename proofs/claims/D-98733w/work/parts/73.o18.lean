/-! ===== BOTH SIDES JOINED, 2: small ones; what is fed ===== -/
set_option maxRecDepth 100000
/-- all but small numbers stays -/
theorem zR_keep {h h' : zHp} {a nm : Int → Int} (R : zRl h a nm) (hN : gN h' = gN h) (hK : gK h' = gK h) (hR : gR h' = gR h) (hJ : ∀ b, b ≠ 65 → b ≠ 113 → gJ h' b = gJ h b) (hI : ∀ b, b ≠ 65 → (b < 71 ∨ 73 < b) → b ≠ 112 → b ≠ 113 → (b < 119 ∨ 128 < b) → gI h' b = gI h b) (st : gI h' 65 7 = gI h' 113 2) (up : gJ h' 65 8 = gJ h' 113 3 ∧ gJ h' 65 9 = gJ h' 113 4) (td : gI h' 65 2 = gI h' 113 10 ∧ 0 ≤ gI h' 113 10 ∧ gI h' 113 10 ≤ 900) (tp : ∀ k, 0 ≤ k → k < gI h' 113 10 → gI h' 71 k = gI h' 119 k) (fa : gI h' 65 3 = gI h' 113 16 ∧ gI h' 65 4 = gI h' 113 17) (la : ∀ j, 0 ≤ j → j < 5 → gI h' 112 j = gI h' 128 j) (li : gI h' 65 24 = gI h' 113 40) (mm : gI h' 65 12 = gI h 65 12 ∧ gI h' 113 41 = gI h 113 41) : zRl h' a nm := by
  have M := zRmk R
  have o8 : ∀ c, (gK h c).1 = 0 → 8 ≤ (gK h c).2 → gI h' c = gI h c := fun c c1 c2 => by
    have q := zK8 R c1 c2
    have X := zRxk R
    refine hI c q.1 ?_ ?_ (by omega) ?_
    · by_cases e : c < 71 ∨ 73 < c
      · exact e
      · exfalso
        have e : c = 71 ∨ c = 72 ∨ c = 73 := by omega
        obtain rfl | rfl | rfl := e
        · rw [zXk1 X] at c1; exact absurd c1 (by decide)
        · rw [zXk5 X] at c2; exact absurd c2 (by decide)
        · rw [zXk6 X] at c2; exact absurd c2 (by decide)
    · intro e
      rw [e, zXk23 X] at c1
      exact absurd c1 (by decide)
    · by_cases e : c = 128
      · rw [e, zMk39 M] at c1
        exact absurd c1 (by decide)
      · omega
  have j8 : ∀ c, (gK h c).1 = 0 → 8 ≤ (gK h c).2 → gJ h' c = gJ h c := fun c c1 c2 => by
    have q := zK8 R c1 c2
    exact hJ c q.1 (by omega)
  have wp : ∀ {w : Nat} {c n : Int → Int}, (w = 75 ∨ 128 < w) → zPw h w c n → zPw h' w c n := fun {w c n} w1 Pc =>
    zPw_fr Pc (fun b _ => by rw [hK]) (fun b _ => by rw [hR]) (fun b b1 b2 _ => j8 b b1 b2) (fun b hb => by
      rcases hb with hb | hb
      · exact hI b (by omega) (by omega) (by omega) (by omega) (by omega)
      · exact o8 b hb.1 hb.2.1)
  have vof : ∀ {o : Option Nat} {c : Int → Int}, zVo h o c → zVo h' o c := fun {o c} Q => zVo_fr (fun b _ => by rw [hK]) (fun b _ => by rw [hR]) (fun b b1 b2 _ => o8 b b1 (by omega)) zSr_rf Q
  have tr := zRtr R
  refine ⟨?_, ?_, ?_, ?_, ?_, wp (Or.inl rfl) (zRpw R), zRiv R, st, up, td, tp, fa, ?_, la, li, ?_, ?_, ?_, ?_, ?_, ?_⟩
  · have q := zRmk R
    unfold zMk at q ⊢
    rw [hK, hR]
    exact q
  · have q := zRxk R
    unfold zXk at q ⊢
    rw [hK, hR]
    exact q
  · have q := zRwk R
    unfold zWk at q ⊢
    rw [hK, hR]
    exact q
  · rw [hI 114 (by decide) (by decide) (by decide) (by decide) (by decide)]
    exact zRat R
  · rw [hJ 115 (by decide) (by decide)]
    exact zRnm R
  · rw [hI 116 (by decide) (by decide) (by decide) (by decide) (by decide), hI 117 (by decide) (by decide) (by decide) (by decide) (by decide), hJ 118 (by decide) (by decide)]
    unfold zTr
    rw [hR]
    refine ⟨fun t t0 t1 => ?_, tr.2⟩
    rcases tr.1 t t0 t1 with q | ⟨r, r1, r2, r3, r4, r5, r6, r7⟩
    · exact Or.inl q
    · refine Or.inr ⟨r, r1, r2, r3, r4, by rw [hN]; exact r5, by rw [hK]; exact r6, fun k k0 k1 => ?_⟩
      unfold zTv
      rw [hI r (by omega) (by omega) (by omega) (by omega) (by omega), hJ r (by omega) (by omega)]
      exact r7 k k0 k1
  · rw [mm.1, mm.2]
    exact zRmm R
  · rw [mm.2]
    obtain ⟨m1, m2, m3, m4⟩ := zRms R
    unfold zMs
    rw [hR]
    refine ⟨m1, fun m m0 m9 => ?_, m3, m4⟩
    rcases m2 m m0 m9 with q | ⟨H, q1, q2, q3, q4, q5, q6, q7, q8⟩
    · exact Or.inl q
    · refine Or.inr ⟨H, q1, q2, by rw [hN]; exact q3, by rw [hK]; exact q4, by rw [hR]; exact q5, ?_, fun i hi => by rw [hK]; exact q7 i hi, fun hm => ?_⟩
      · unfold zWk at q6 ⊢
        rw [hK, hR]
        exact q6
      · obtain ⟨z1, z2, z3⟩ := q8 hm
        rw [hR]
        exact ⟨wp (Or.inr (by omega)) z1, z2, vof z3⟩
  · rw [hR]
    exact vof (zRvo R)
  · intro c c0 c1
    rw [hK, hR, hI c (by omega) (by omega) (by omega) (by omega) (by omega)]
    exact zRtx R c c0 c1
  · rw [hK]
    exact zRkx R
  · rw [hN, hK]
    exact zRfr R
/-- a fraction is told -/
theorem zR_frac {h : zHp} {a nm : Int → Int} {x y : Int} (R : zRl h a nm) : zRl (sJ (sJ (sJ (sJ h 65 8 x) 65 9 y) 113 3 x) 113 4 y) a nm := by
  refine zR_keep R rfl rfl rfl (fun b b1 b2 => ?_) (fun b _ _ _ _ _ => rfl) (zRst (h := h) R) ⟨?_, ?_⟩ (zRtd (h := h) R) (zRtp (h := h) R) (zRfa (h := h) R) (zRla (h := h) R) (zRli (h := h) R) ⟨rfl, rfl⟩
  · rw [gJ_sJ_ne b2, gJ_sJ_ne b2, gJ_sJ_ne b1, gJ_sJ_ne b1]
  · rw [gJ_sJ_ne (show (65 : Nat) ≠ 113 by decide), gJ_sJ_ne (show (65 : Nat) ≠ 113 by decide), gJ_sJ_eq, zU_ne (by decide), gJ_sJ_eq, zU_eq, gJ_sJ_eq, zU_ne (by decide), gJ_sJ_eq, zU_eq]
  · rw [gJ_sJ_ne (show (65 : Nat) ≠ 113 by decide), gJ_sJ_ne (show (65 : Nat) ≠ 113 by decide), gJ_sJ_eq, zU_eq, gJ_sJ_eq, zU_eq]
theorem zJ_k {d : Nat} {MM : zMi} {as : List zAv} {Q : zRs → Prop} {h h1 : zHp} {mk : Int → zAv} {x : Int} (C : zSc h h1) (hM : ∀ Q2 : zRs → Prop, (∀ h2 a2 nm2, zRl h2 a2 nm2 → zSc h h2 → zBu h h2 → Q2 (zRv (mk x) h2)) → zCm MM d (zr (some 113) :: as) h1 Q2) (k : ∀ x h1, zSc h h1 → (∀ Q2 : zRs → Prop, (∀ h2 a2 nm2, zRl h2 a2 nm2 → zSc h h2 → zBu h h2 → Q2 (zRv (mk x) h2)) → zCm MM d (zr (some 113) :: as) h1 Q2) → Q (zRv (mk x) h1)) : Q (zRv (mk x) h1) := k x h1 C hM
theorem zBu_0 {h h' : zHp} (e : h'.1 = h.1) : zBu h h' := by
  unfold zBu gC gS gN
  rw [e]
  omega
theorem zH2_me {h1 : zHp} {a : Int → Int} (R : gI h1 114 = a) : zH2 h1 a (gI h1 122) = h1 := by
  rw [← R]
  exact zH2_id
section J2
variable {d : Nat}
theorem jO_status : zOp zi d mX0_status mX6_status [] := fun Q h a nm R k => by
  have K := zRxk R
  have P := zRmk R
  simp (disch := (first | (simp only [gK_sI, gK_sJ, gK_sR, gK_sIA, gK_sJA, gR_sI, gR_sJ, gR_sIA, Nat.reduceLeDiff, Nat.reduceEqDiff, Nat.reduceLT, Int.reduceLE, Int.reduceLT, Int.reduceEq, zWt_i, zWt_l, zWt_r, zWt_n, K, zXkk K, zXh0 K] <;> omega) | omega | fail)) only [wI_id, zLc_lt, zLc_gt, zLc_eq, zLc_le, zLc_ge, Int.reduceEq, Int.reduceLE, Int.reduceLT, Int.reduceNeg, Int.reduceAdd, Int.reduceMul, Int.reduceSub, not_true_eq_false, not_false_eq_true, reduceIte, zPo_v, zPo_n, zPo_t, zKl_i, zKl_r, zKl_n, zKl_l, gK_sI, gK_sJ, gK_sR, gK_sIA, gK_sJA, gR_sI, gR_sJ, gJ_sI, gI_sJ, gI_sR, gJ_sR, gR_sIA, gJ_sIA, Nat.reduceLeDiff, Nat.reduceEqDiff, and_self, and_true, true_and, and_false, false_and, eX0_status_0, eX0_status_1, eX0_status_4, tX0_status, eX0_status_in, K, zXkk K, zXh0 K]
  refine k _ h zSc_rf (fun Q2 h2 => ?_)
  simp (disch := (first | (simp only [gK_sI, gK_sJ, gK_sR, gK_sIA, gK_sJA, gR_sI, gR_sJ, gR_sIA, Nat.reduceLeDiff, Nat.reduceEqDiff, Nat.reduceLT, Int.reduceLE, Int.reduceLT, Int.reduceEq, zWt_i, zWt_l, zWt_r, zWt_n, P, zMkk P] <;> omega) | omega | fail)) only [wI_id, zLc_lt, zLc_gt, zLc_eq, zLc_le, zLc_ge, Int.reduceEq, Int.reduceLE, Int.reduceLT, Int.reduceNeg, Int.reduceAdd, Int.reduceMul, Int.reduceSub, not_true_eq_false, not_false_eq_true, reduceIte, zPo_v, zPo_n, zPo_t, zKl_i, zKl_r, zKl_n, zKl_l, gK_sI, gK_sJ, gK_sR, gK_sIA, gK_sJA, gR_sI, gR_sJ, gJ_sI, gI_sJ, gI_sR, gJ_sR, gR_sIA, gJ_sIA, Nat.reduceLeDiff, Nat.reduceEqDiff, and_self, and_true, true_and, and_false, false_and, eX6_status_0, eX6_status_1, eX6_status_4, eX6_status_in, P, zMkk P]
  rw [← zRst R]
  exact h2 h a nm R zSc_rf (zBu_0 rfl)
theorem jO_top : zOp zl d mX0_top mX6_top [] := fun Q h a nm R k => by
  have K := zRxk R
  have P := zRmk R
  simp (disch := (first | (simp only [gK_sI, gK_sJ, gK_sR, gK_sIA, gK_sJA, gR_sI, gR_sJ, gR_sIA, Nat.reduceLeDiff, Nat.reduceEqDiff, Nat.reduceLT, Int.reduceLE, Int.reduceLT, Int.reduceEq, zWt_i, zWt_l, zWt_r, zWt_n, K, zXkk K, zXh0 K] <;> omega) | omega | fail)) only [wI_id, zLc_lt, zLc_gt, zLc_eq, zLc_le, zLc_ge, Int.reduceEq, Int.reduceLE, Int.reduceLT, Int.reduceNeg, Int.reduceAdd, Int.reduceMul, Int.reduceSub, not_true_eq_false, not_false_eq_true, reduceIte, zPo_v, zPo_n, zPo_t, zKl_i, zKl_r, zKl_n, zKl_l, gK_sI, gK_sJ, gK_sR, gK_sIA, gK_sJA, gR_sI, gR_sJ, gJ_sI, gI_sJ, gI_sR, gJ_sR, gR_sIA, gJ_sIA, Nat.reduceLeDiff, Nat.reduceEqDiff, and_self, and_true, true_and, and_false, false_and, eX0_top_0, eX0_top_1, eX0_top_4, tX0_top, eX0_top_in, K, zXkk K, zXh0 K]
  refine k _ h zSc_rf (fun Q2 h2 => ?_)
  simp (disch := (first | (simp only [gK_sI, gK_sJ, gK_sR, gK_sIA, gK_sJA, gR_sI, gR_sJ, gR_sIA, Nat.reduceLeDiff, Nat.reduceEqDiff, Nat.reduceLT, Int.reduceLE, Int.reduceLT, Int.reduceEq, zWt_i, zWt_l, zWt_r, zWt_n, P, zMkk P] <;> omega) | omega | fail)) only [wI_id, zLc_lt, zLc_gt, zLc_eq, zLc_le, zLc_ge, Int.reduceEq, Int.reduceLE, Int.reduceLT, Int.reduceNeg, Int.reduceAdd, Int.reduceMul, Int.reduceSub, not_true_eq_false, not_false_eq_true, reduceIte, zPo_v, zPo_n, zPo_t, zKl_i, zKl_r, zKl_n, zKl_l, gK_sI, gK_sJ, gK_sR, gK_sIA, gK_sJA, gR_sI, gR_sJ, gJ_sI, gI_sJ, gI_sR, gJ_sR, gR_sIA, gJ_sIA, Nat.reduceLeDiff, Nat.reduceEqDiff, and_self, and_true, true_and, and_false, false_and, eX6_top_0, eX6_top_1, eX6_top_4, eX6_top_in, P, zMkk P]
  rw [← (zRup R).1]
  exact h2 h a nm R zSc_rf (zBu_0 rfl)
theorem jO_bottom : zOp zl d mX0_bottom mX6_bottom [] := fun Q h a nm R k => by
  have K := zRxk R
  have P := zRmk R
  simp (disch := (first | (simp only [gK_sI, gK_sJ, gK_sR, gK_sIA, gK_sJA, gR_sI, gR_sJ, gR_sIA, Nat.reduceLeDiff, Nat.reduceEqDiff, Nat.reduceLT, Int.reduceLE, Int.reduceLT, Int.reduceEq, zWt_i, zWt_l, zWt_r, zWt_n, K, zXkk K, zXh0 K] <;> omega) | omega | fail)) only [wI_id, zLc_lt, zLc_gt, zLc_eq, zLc_le, zLc_ge, Int.reduceEq, Int.reduceLE, Int.reduceLT, Int.reduceNeg, Int.reduceAdd, Int.reduceMul, Int.reduceSub, not_true_eq_false, not_false_eq_true, reduceIte, zPo_v, zPo_n, zPo_t, zKl_i, zKl_r, zKl_n, zKl_l, gK_sI, gK_sJ, gK_sR, gK_sIA, gK_sJA, gR_sI, gR_sJ, gJ_sI, gI_sJ, gI_sR, gJ_sR, gR_sIA, gJ_sIA, Nat.reduceLeDiff, Nat.reduceEqDiff, and_self, and_true, true_and, and_false, false_and, eX0_bottom_0, eX0_bottom_1, eX0_bottom_4, tX0_bottom, eX0_bottom_in, K, zXkk K, zXh0 K]
  refine k _ h zSc_rf (fun Q2 h2 => ?_)
  simp (disch := (first | (simp only [gK_sI, gK_sJ, gK_sR, gK_sIA, gK_sJA, gR_sI, gR_sJ, gR_sIA, Nat.reduceLeDiff, Nat.reduceEqDiff, Nat.reduceLT, Int.reduceLE, Int.reduceLT, Int.reduceEq, zWt_i, zWt_l, zWt_r, zWt_n, P, zMkk P] <;> omega) | omega | fail)) only [wI_id, zLc_lt, zLc_gt, zLc_eq, zLc_le, zLc_ge, Int.reduceEq, Int.reduceLE, Int.reduceLT, Int.reduceNeg, Int.reduceAdd, Int.reduceMul, Int.reduceSub, not_true_eq_false, not_false_eq_true, reduceIte, zPo_v, zPo_n, zPo_t, zKl_i, zKl_r, zKl_n, zKl_l, gK_sI, gK_sJ, gK_sR, gK_sIA, gK_sJA, gR_sI, gR_sJ, gJ_sI, gI_sJ, gI_sR, gJ_sR, gR_sIA, gJ_sIA, Nat.reduceLeDiff, Nat.reduceEqDiff, and_self, and_true, true_and, and_false, false_and, eX6_bottom_0, eX6_bottom_1, eX6_bottom_4, eX6_bottom_in, P, zMkk P]
  rw [← (zRup R).2]
  exact h2 h a nm R zSc_rf (zBu_0 rfl)
theorem jO_fault {w : Int} : zOp zi d mX0_fault mX6_fault [zi w] := fun Q h a nm R k => by
  have K := zRxk R
  have P := zRmk R
  by_cases c0 : w = 0
  · simp (disch := (first | (simp only [gK_sI, gK_sJ, gK_sR, gK_sIA, gK_sJA, gR_sI, gR_sJ, gR_sIA, Nat.reduceLeDiff, Nat.reduceEqDiff, Nat.reduceLT, Int.reduceLE, Int.reduceLT, Int.reduceEq, zWt_i, zWt_l, zWt_r, zWt_n, K, zXkk K, zXh0 K] <;> omega) | omega | fail)) only [if_pos, if_neg, wI_id, zLc_lt, zLc_gt, zLc_eq, zLc_le, zLc_ge, Int.reduceEq, Int.reduceLE, Int.reduceLT, Int.reduceNeg, Int.reduceAdd, Int.reduceMul, Int.reduceSub, not_true_eq_false, not_false_eq_true, reduceIte, zPo_v, zPo_n, zPo_t, zKl_i, zKl_r, zKl_n, zKl_l, gK_sI, gK_sJ, gK_sR, gK_sIA, gK_sJA, gR_sI, gR_sJ, gJ_sI, gI_sJ, gI_sR, gJ_sR, gR_sIA, gJ_sIA, Nat.reduceLeDiff, Nat.reduceEqDiff, and_self, and_true, true_and, and_false, false_and, eX0_fault_0, eX0_fault_1, eX0_fault_4, eX0_fault_5, eX0_fault_8, eX0_fault_11, eX0_fault_12, eX0_fault_13, eX0_fault_16, eX0_fault_17, eX0_fault_20, eX0_fault_23, eX0_fault_24, tX0_fault, eX0_fault_in, K, zXkk K, zXh0 K]
    refine k _ h zSc_rf (fun Q2 h2 => ?_)
    simp (disch := (first | (simp only [gK_sI, gK_sJ, gK_sR, gK_sIA, gK_sJA, gR_sI, gR_sJ, gR_sIA, Nat.reduceLeDiff, Nat.reduceEqDiff, Nat.reduceLT, Int.reduceLE, Int.reduceLT, Int.reduceEq, zWt_i, zWt_l, zWt_r, zWt_n, P, zMkk P] <;> omega) | omega | fail)) only [if_pos, if_neg, wI_id, zLc_lt, zLc_gt, zLc_eq, zLc_le, zLc_ge, Int.reduceEq, Int.reduceLE, Int.reduceLT, Int.reduceNeg, Int.reduceAdd, Int.reduceMul, Int.reduceSub, not_true_eq_false, not_false_eq_true, reduceIte, zPo_v, zPo_n, zPo_t, zKl_i, zKl_r, zKl_n, zKl_l, gK_sI, gK_sJ, gK_sR, gK_sIA, gK_sJA, gR_sI, gR_sJ, gJ_sI, gI_sJ, gI_sR, gJ_sR, gR_sIA, gJ_sIA, Nat.reduceLeDiff, Nat.reduceEqDiff, and_self, and_true, true_and, and_false, false_and, eX6_fault_0, eX6_fault_1, eX6_fault_4, eX6_fault_5, eX6_fault_8, eX6_fault_11, eX6_fault_12, eX6_fault_13, eX6_fault_16, eX6_fault_17, eX6_fault_20, eX6_fault_23, eX6_fault_24, eX6_fault_in, P, zMkk P]
    rw [← (zRfa R).1]
    exact h2 h a nm R zSc_rf (zBu_0 rfl)
  · by_cases c1 : w = 1
    · simp (disch := (first | (simp only [gK_sI, gK_sJ, gK_sR, gK_sIA, gK_sJA, gR_sI, gR_sJ, gR_sIA, Nat.reduceLeDiff, Nat.reduceEqDiff, Nat.reduceLT, Int.reduceLE, Int.reduceLT, Int.reduceEq, zWt_i, zWt_l, zWt_r, zWt_n, K, zXkk K, zXh0 K] <;> omega) | omega | fail)) only [if_pos, if_neg, wI_id, zLc_lt, zLc_gt, zLc_eq, zLc_le, zLc_ge, Int.reduceEq, Int.reduceLE, Int.reduceLT, Int.reduceNeg, Int.reduceAdd, Int.reduceMul, Int.reduceSub, not_true_eq_false, not_false_eq_true, reduceIte, zPo_v, zPo_n, zPo_t, zKl_i, zKl_r, zKl_n, zKl_l, gK_sI, gK_sJ, gK_sR, gK_sIA, gK_sJA, gR_sI, gR_sJ, gJ_sI, gI_sJ, gI_sR, gJ_sR, gR_sIA, gJ_sIA, Nat.reduceLeDiff, Nat.reduceEqDiff, and_self, and_true, true_and, and_false, false_and, eX0_fault_0, eX0_fault_1, eX0_fault_4, eX0_fault_5, eX0_fault_8, eX0_fault_11, eX0_fault_12, eX0_fault_13, eX0_fault_16, eX0_fault_17, eX0_fault_20, eX0_fault_23, eX0_fault_24, tX0_fault, eX0_fault_in, K, zXkk K, zXh0 K]
      refine k _ h zSc_rf (fun Q2 h2 => ?_)
      simp (disch := (first | (simp only [gK_sI, gK_sJ, gK_sR, gK_sIA, gK_sJA, gR_sI, gR_sJ, gR_sIA, Nat.reduceLeDiff, Nat.reduceEqDiff, Nat.reduceLT, Int.reduceLE, Int.reduceLT, Int.reduceEq, zWt_i, zWt_l, zWt_r, zWt_n, P, zMkk P] <;> omega) | omega | fail)) only [if_pos, if_neg, wI_id, zLc_lt, zLc_gt, zLc_eq, zLc_le, zLc_ge, Int.reduceEq, Int.reduceLE, Int.reduceLT, Int.reduceNeg, Int.reduceAdd, Int.reduceMul, Int.reduceSub, not_true_eq_false, not_false_eq_true, reduceIte, zPo_v, zPo_n, zPo_t, zKl_i, zKl_r, zKl_n, zKl_l, gK_sI, gK_sJ, gK_sR, gK_sIA, gK_sJA, gR_sI, gR_sJ, gJ_sI, gI_sJ, gI_sR, gJ_sR, gR_sIA, gJ_sIA, Nat.reduceLeDiff, Nat.reduceEqDiff, and_self, and_true, true_and, and_false, false_and, eX6_fault_0, eX6_fault_1, eX6_fault_4, eX6_fault_5, eX6_fault_8, eX6_fault_11, eX6_fault_12, eX6_fault_13, eX6_fault_16, eX6_fault_17, eX6_fault_20, eX6_fault_23, eX6_fault_24, eX6_fault_in, P, zMkk P]
      rw [← (zRfa R).2]
      exact h2 h a nm R zSc_rf (zBu_0 rfl)
    · simp (disch := (first | (simp only [gK_sI, gK_sJ, gK_sR, gK_sIA, gK_sJA, gR_sI, gR_sJ, gR_sIA, Nat.reduceLeDiff, Nat.reduceEqDiff, Nat.reduceLT, Int.reduceLE, Int.reduceLT, Int.reduceEq, zWt_i, zWt_l, zWt_r, zWt_n, K, zXkk K, zXh0 K] <;> omega) | omega | fail)) only [if_pos, if_neg, wI_id, zLc_lt, zLc_gt, zLc_eq, zLc_le, zLc_ge, Int.reduceEq, Int.reduceLE, Int.reduceLT, Int.reduceNeg, Int.reduceAdd, Int.reduceMul, Int.reduceSub, not_true_eq_false, not_false_eq_true, reduceIte, zPo_v, zPo_n, zPo_t, zKl_i, zKl_r, zKl_n, zKl_l, gK_sI, gK_sJ, gK_sR, gK_sIA, gK_sJA, gR_sI, gR_sJ, gJ_sI, gI_sJ, gI_sR, gJ_sR, gR_sIA, gJ_sIA, Nat.reduceLeDiff, Nat.reduceEqDiff, and_self, and_true, true_and, and_false, false_and, eX0_fault_0, eX0_fault_1, eX0_fault_4, eX0_fault_5, eX0_fault_8, eX0_fault_11, eX0_fault_12, eX0_fault_13, eX0_fault_16, eX0_fault_17, eX0_fault_20, eX0_fault_23, eX0_fault_24, tX0_fault, eX0_fault_in, K, zXkk K, zXh0 K]
      refine k _ h zSc_rf (fun Q2 h2 => ?_)
      simp (disch := (first | (simp only [gK_sI, gK_sJ, gK_sR, gK_sIA, gK_sJA, gR_sI, gR_sJ, gR_sIA, Nat.reduceLeDiff, Nat.reduceEqDiff, Nat.reduceLT, Int.reduceLE, Int.reduceLT, Int.reduceEq, zWt_i, zWt_l, zWt_r, zWt_n, P, zMkk P] <;> omega) | omega | fail)) only [if_pos, if_neg, wI_id, zLc_lt, zLc_gt, zLc_eq, zLc_le, zLc_ge, Int.reduceEq, Int.reduceLE, Int.reduceLT, Int.reduceNeg, Int.reduceAdd, Int.reduceMul, Int.reduceSub, not_true_eq_false, not_false_eq_true, reduceIte, zPo_v, zPo_n, zPo_t, zKl_i, zKl_r, zKl_n, zKl_l, gK_sI, gK_sJ, gK_sR, gK_sIA, gK_sJA, gR_sI, gR_sJ, gJ_sI, gI_sJ, gI_sR, gJ_sR, gR_sIA, gJ_sIA, Nat.reduceLeDiff, Nat.reduceEqDiff, and_self, and_true, true_and, and_false, false_and, eX6_fault_0, eX6_fault_1, eX6_fault_4, eX6_fault_5, eX6_fault_8, eX6_fault_11, eX6_fault_12, eX6_fault_13, eX6_fault_16, eX6_fault_17, eX6_fault_20, eX6_fault_23, eX6_fault_24, eX6_fault_in, P, zMkk P]
      exact h2 h a nm R zSc_rf (zBu_0 rfl)
theorem sI_sJ9 {h : zHp} {b c : Nat} {j x k y : Int} : sI (sJ h b j x) c k y = sJ (sI h c k y) b j x := rfl
theorem sJ_19 {h : zHp} {b : Nat} {j x : Int} : (sJ h b j x).1 = h.1 := rfl
theorem zSc_sJ {h h1 : zHp} {b : Nat} {j x : Int} (a : zSc h h1) : zSc h (sJ h1 b j x) := ⟨a.1, a.2⟩
theorem jO_share {s n : Int} : zOp zi d mX0_share mX6_share [zi s, zi n] := fun Q h a nm R k => by
  refine oX_share (zRxk R) (zRiv R) (zRpw R) (fun h1 st P1 S1 t1 hst => ?_) (fun hc hz h1 P1 S1 t1 => ?_)
  · refine zJ_fin R S1 P1 (zRiv R) zSs_rf t1 (fun Q2 h2 => ?_) k
    have go : ∀ g, gI (sI h1 113 2 st) 113 2 = st → Q2 (zRv (zi 0) (zH2 (sI h1 113 2 st) a g)) := fun g e => h2 _ g (zSm_sI zSm_rf (by decide)) e
    refine oM_share (zMk_sx S1 (zRmk R)) (zRiv R) (fun hn g => ?_) (fun hc hz g => ?_) (fun hc hz g => ?_)
    · rcases hst with ⟨-, rfl⟩ | ⟨q, -⟩
      · exact go g (by rw [gI_sI_eq, zU_eq])
      · exact absurd q hn
    · rcases hst with ⟨q, -⟩ | ⟨-, -, rfl⟩
      · exact absurd hc q
      · exact go g (by rw [gI_sI_eq, zU_eq])
    · rcases hst with ⟨q, -⟩ | ⟨-, q, -⟩
      · exact absurd hc q
      · exact absurd q hz
  · have C1 : zSc h h1 := zSc_sx S1
    refine k 1 _ C1 (fun Q2 h2 => ?_)
    have e114 : gI h1 114 = a := (S1.2.2.2.2.2.1 114 (by decide) (by decide)).trans (zRat R)
    generalize hx : fTop (fW a (fLd a s) n (a 4)) (fWs a s (a 0).toNat) = x at *
    generalize hy : fBot (fW a (fLd a s) n (a 4)) (fWs a s (a 0).toNat) = y at *
    have key : zCm mX6_share d [zr (some 113), zi s, zi n] (zH2 (sJ (sJ h1 65 8 x) 65 9 y) a (gI h1 122)) Q2 := by
      refine oM_share (h := sJ (sJ h1 65 8 x) 65 9 y) (show zMk h1 from zMk_sx S1 (zRmk R)) (zRiv R) (fun hn g => absurd hc hn) (fun _ hz2 g => absurd hz2 hz) (fun _ _ g => ?_)
      rw [hx, hy]
      have R2 := zR_step (g := g) R S1 P1 (zRiv R) zSs_rf t1 (zSm_sI (j := 2) (x := 0) (zSm_rf (h := h1)) (by decide)) (by rw [gI_sI_eq, zU_eq])
      have C9 : zSc h (zH2 (sI h1 113 2 0) a g) := zSc_tr C1 (zSc_sm (h := h1) (h1 := sI h1 113 2 0) (a := a) (g := g) (zSm_sI (j := 2) (x := 0) zSm_rf (by decide)))
      have e8 : zH2 (sI (sJ (sJ (sJ (sJ h1 65 8 x) 65 9 y) 113 3 x) 113 4 y) 113 2 0) a g = sJ (sJ (sJ (sJ (zH2 (sI h1 113 2 0) a g) 65 8 x) 65 9 y) 113 3 x) 113 4 y := by rw [sI_sJ9, sI_sJ9, sI_sJ9, sI_sJ9, ← zH2_sJ, ← zH2_sJ, ← zH2_sJ, ← zH2_sJ]
      rw [e8]
      have B9 : (zH2 (sI h1 113 2 0) a g).1 = h.1 := S1.1
      have R3 := zR_frac (x := x) (y := y) R2
      exact h2 _ a nm R3 (zSc_sJ (zSc_sJ (zSc_sJ (zSc_sJ C9)))) (zBu_0 (by rw [sJ_19, sJ_19, sJ_19, sJ_19]; exact B9))
    have e9 : zH2 (sJ (sJ h1 65 8 x) 65 9 y) a (gI h1 122) = sJ (sJ h1 65 8 x) 65 9 y := zH2_me (h1 := sJ (sJ h1 65 8 x) 65 9 y) e114
    rw [e9] at key
    exact key
theorem jO_lived {w : Int} : zOp zi d mX0_lived mX6_lived [zi w] := fun Q h a nm R k => by
  have K := zRxk R
  have P := zRmk R
  have li := zRli R
  have la := zRla R
  have S1 : ∀ st, zSx h (sI h 65 7 st) := fun st => zSx_st zSx_rf
  have fin : ∀ x st, (∀ Q2 : zRs → Prop, Q2 (zRv (zi x) (sI (sI h 65 7 st) 113 2 st)) → zCm mX6_lived d [zr (some 113), zi w] (sI h 65 7 st) Q2) → Q (zRv (zi x) (sI h 65 7 st)) := fun x st hM => by
    refine zJ_fin R (S1 st) (zPw_st (zRiv R) (zRpw R) K) (zRiv R) zSs_rf (by rw [gI_sI_eq, zU_eq]) (fun Q2 h2 => ?_) k
    have e114 : gI (sI h 65 7 st) 114 = a := by rw [gI_sI_ne (by decide)]; exact zRat R
    rw [zH2_me e114]
    refine hM Q2 ?_
    have h9 := h2 (sI (sI h 65 7 st) 113 2 st) (gI (sI h 65 7 st) 122) (zSm_sI zSm_rf (by decide)) (by rw [gI_sI_eq, zU_eq])
    have e3 : zH2 (sI (sI h 65 7 st) 113 2 st) a (gI (sI h 65 7 st) 122) = sI (sI h 65 7 st) 113 2 st := zH2_me (h1 := sI (sI h 65 7 st) 113 2 st) e114
    rw [e3] at h9
    exact h9
  have P9 : ∀ st, zMk (sI h 65 7 st) := fun _ => P
  by_cases c : 0 ≤ w ∧ w ≤ 4
  · obtain ⟨c0, c1⟩ := c
    by_cases c2 : gI h 65 24 = 0
    · have h9 := fin (-1) 6 (fun Q2 h2 => by
        have c3 : gI h 113 40 = 0 := by rw [← li]; exact c2
        simp (disch := (first | (simp only [gK_sI, gK_sJ, gK_sR, gK_sIA, gK_sJA, gR_sI, gR_sJ, gR_sIA, Nat.reduceLeDiff, Nat.reduceEqDiff, Nat.reduceLT, Int.reduceLE, Int.reduceLT, Int.reduceEq, zWt_i, zWt_l, zWt_r, zWt_n, P, zMkk P, zMr39 P, zMk39 P] <;> omega) | omega | fail)) only [if_pos, if_neg, wI_id, zLc_lt, zLc_gt, zLc_eq, zLc_le, zLc_ge, Int.reduceEq, Int.reduceLE, Int.reduceLT, Int.reduceNeg, Int.reduceAdd, Int.reduceMul, Int.reduceSub, not_true_eq_false, not_false_eq_true, reduceIte, zPo_v, zPo_n, zPo_t, zKl_i, zKl_r, zKl_n, zKl_l, gK_sI, gK_sJ, gK_sR, gK_sIA, gK_sJA, gR_sI, gR_sJ, gJ_sI, gI_sJ, gI_sR, gJ_sR, gR_sIA, gJ_sIA, Nat.reduceLeDiff, Nat.reduceEqDiff, and_self, and_true, true_and, and_false, false_and, eX6_lived_0, eX6_lived_1, eX6_lived_4, eX6_lived_5, eX6_lived_6, eX6_lived_9, eX6_lived_10, eX6_lived_11, eX6_lived_14, eX6_lived_17, eX6_lived_18, eX6_lived_21, eX6_lived_24, eX6_lived_25, eX6_lived_26, eX6_lived_29, eX6_lived_30, eX6_lived_31, eX6_lived_34, eX6_lived_37, eX6_lived_38, eX6_lived_40, eX6_lived_43, eX6_lived_in, P, zMkk P, zMr39 P, zMk39 P, gI_sI_ne, c3, cM_refuse (P9 _)]
        exact h2)
      simp (disch := (first | (simp only [gK_sI, gK_sJ, gK_sR, gK_sIA, gK_sJA, gR_sI, gR_sJ, gR_sIA, Nat.reduceLeDiff, Nat.reduceEqDiff, Nat.reduceLT, Int.reduceLE, Int.reduceLT, Int.reduceEq, zWt_i, zWt_l, zWt_r, zWt_n, K, zXkk K, zXr23 K, zXk23 K, zXh0 K] <;> omega) | omega | fail)) only [if_pos, if_neg, wI_id, zLc_lt, zLc_gt, zLc_eq, zLc_le, zLc_ge, Int.reduceEq, Int.reduceLE, Int.reduceLT, Int.reduceNeg, Int.reduceAdd, Int.reduceMul, Int.reduceSub, not_true_eq_false, not_false_eq_true, reduceIte, zPo_v, zPo_n, zPo_t, zKl_i, zKl_r, zKl_n, zKl_l, gK_sI, gK_sJ, gK_sR, gK_sIA, gK_sJA, gR_sI, gR_sJ, gJ_sI, gI_sJ, gI_sR, gJ_sR, gR_sIA, gJ_sIA, Nat.reduceLeDiff, Nat.reduceEqDiff, and_self, and_true, true_and, and_false, false_and, eX0_lived_0, eX0_lived_1, eX0_lived_2, eX0_lived_3, eX0_lived_4, eX0_lived_7, eX0_lived_10, eX0_lived_13, eX0_lived_14, eX0_lived_17, eX0_lived_18, eX0_lived_21, eX0_lived_24, eX0_lived_25, eX0_lived_28, eX0_lived_30, eX0_lived_33, eX0_lived_34, eX0_lived_37, eX0_lived_40, eX0_lived_41, eX0_lived_44, eX0_lived_45, eX0_lived_48, eX0_lived_49, eX0_lived_50, tX0_lived, eX0_lived_in, K, zXkk K, zXr23 K, zXk23 K, zXh0 K, kX0_isIn, c2, gI_sI_eq, zU_eq]
      exact h9
    · have h9 := fin (gI h 112 w) 0 (fun Q2 h2 => by
        have c3 : ¬ gI h 113 40 = 0 := by rw [← li]; exact c2
        rw [la w c0 (by omega)] at h2
        simp (disch := (first | (simp only [gK_sI, gK_sJ, gK_sR, gK_sIA, gK_sJA, gR_sI, gR_sJ, gR_sIA, Nat.reduceLeDiff, Nat.reduceEqDiff, Nat.reduceLT, Int.reduceLE, Int.reduceLT, Int.reduceEq, zWt_i, zWt_l, zWt_r, zWt_n, P, zMkk P, zMr39 P, zMk39 P] <;> omega) | omega | fail)) only [if_pos, if_neg, wI_id, zLc_lt, zLc_gt, zLc_eq, zLc_le, zLc_ge, Int.reduceEq, Int.reduceLE, Int.reduceLT, Int.reduceNeg, Int.reduceAdd, Int.reduceMul, Int.reduceSub, not_true_eq_false, not_false_eq_true, reduceIte, zPo_v, zPo_n, zPo_t, zKl_i, zKl_r, zKl_n, zKl_l, gK_sI, gK_sJ, gK_sR, gK_sIA, gK_sJA, gR_sI, gR_sJ, gJ_sI, gI_sJ, gI_sR, gJ_sR, gR_sIA, gJ_sIA, Nat.reduceLeDiff, Nat.reduceEqDiff, and_self, and_true, true_and, and_false, false_and, eX6_lived_0, eX6_lived_1, eX6_lived_4, eX6_lived_5, eX6_lived_6, eX6_lived_9, eX6_lived_10, eX6_lived_11, eX6_lived_14, eX6_lived_17, eX6_lived_18, eX6_lived_21, eX6_lived_24, eX6_lived_25, eX6_lived_26, eX6_lived_29, eX6_lived_30, eX6_lived_31, eX6_lived_34, eX6_lived_37, eX6_lived_38, eX6_lived_40, eX6_lived_43, eX6_lived_in, P, zMkk P, zMr39 P, zMk39 P, gI_sI_ne, c3, cM_gives (P9 _)]
        exact h2)
      simp (disch := (first | (simp only [gK_sI, gK_sJ, gK_sR, gK_sIA, gK_sJA, gR_sI, gR_sJ, gR_sIA, Nat.reduceLeDiff, Nat.reduceEqDiff, Nat.reduceLT, Int.reduceLE, Int.reduceLT, Int.reduceEq, zWt_i, zWt_l, zWt_r, zWt_n, K, zXkk K, zXr23 K, zXk23 K, zXh0 K] <;> omega) | omega | fail)) only [if_pos, if_neg, wI_id, zLc_lt, zLc_gt, zLc_eq, zLc_le, zLc_ge, Int.reduceEq, Int.reduceLE, Int.reduceLT, Int.reduceNeg, Int.reduceAdd, Int.reduceMul, Int.reduceSub, not_true_eq_false, not_false_eq_true, reduceIte, zPo_v, zPo_n, zPo_t, zKl_i, zKl_r, zKl_n, zKl_l, gK_sI, gK_sJ, gK_sR, gK_sIA, gK_sJA, gR_sI, gR_sJ, gJ_sI, gI_sJ, gI_sR, gJ_sR, gR_sIA, gJ_sIA, Nat.reduceLeDiff, Nat.reduceEqDiff, and_self, and_true, true_and, and_false, false_and, eX0_lived_0, eX0_lived_1, eX0_lived_2, eX0_lived_3, eX0_lived_4, eX0_lived_7, eX0_lived_10, eX0_lived_13, eX0_lived_14, eX0_lived_17, eX0_lived_18, eX0_lived_21, eX0_lived_24, eX0_lived_25, eX0_lived_28, eX0_lived_30, eX0_lived_33, eX0_lived_34, eX0_lived_37, eX0_lived_40, eX0_lived_41, eX0_lived_44, eX0_lived_45, eX0_lived_48, eX0_lived_49, eX0_lived_50, tX0_lived, eX0_lived_in, K, zXkk K, zXr23 K, zXk23 K, zXh0 K, kX0_isIn, c2, gI_sI_ne, gI_sI_eq, zU_eq]
      exact h9
  · have h9 := fin (-1) 1 (fun Q2 h2 => by
      by_cases c0 : w < 0
      · simp (disch := (first | (simp only [gK_sI, gK_sJ, gK_sR, gK_sIA, gK_sJA, gR_sI, gR_sJ, gR_sIA, Nat.reduceLeDiff, Nat.reduceEqDiff, Nat.reduceLT, Int.reduceLE, Int.reduceLT, Int.reduceEq, zWt_i, zWt_l, zWt_r, zWt_n, P, zMkk P, zMr39 P, zMk39 P] <;> omega) | omega | fail)) only [if_pos, if_neg, wI_id, zLc_lt, zLc_gt, zLc_eq, zLc_le, zLc_ge, Int.reduceEq, Int.reduceLE, Int.reduceLT, Int.reduceNeg, Int.reduceAdd, Int.reduceMul, Int.reduceSub, not_true_eq_false, not_false_eq_true, reduceIte, zPo_v, zPo_n, zPo_t, zKl_i, zKl_r, zKl_n, zKl_l, gK_sI, gK_sJ, gK_sR, gK_sIA, gK_sJA, gR_sI, gR_sJ, gJ_sI, gI_sJ, gI_sR, gJ_sR, gR_sIA, gJ_sIA, Nat.reduceLeDiff, Nat.reduceEqDiff, and_self, and_true, true_and, and_false, false_and, eX6_lived_0, eX6_lived_1, eX6_lived_4, eX6_lived_5, eX6_lived_6, eX6_lived_9, eX6_lived_10, eX6_lived_11, eX6_lived_14, eX6_lived_17, eX6_lived_18, eX6_lived_21, eX6_lived_24, eX6_lived_25, eX6_lived_26, eX6_lived_29, eX6_lived_30, eX6_lived_31, eX6_lived_34, eX6_lived_37, eX6_lived_38, eX6_lived_40, eX6_lived_43, eX6_lived_in, P, zMkk P, zMr39 P, zMk39 P, cM_refuse (P9 _)]
        exact h2
      · simp (disch := (first | (simp only [gK_sI, gK_sJ, gK_sR, gK_sIA, gK_sJA, gR_sI, gR_sJ, gR_sIA, Nat.reduceLeDiff, Nat.reduceEqDiff, Nat.reduceLT, Int.reduceLE, Int.reduceLT, Int.reduceEq, zWt_i, zWt_l, zWt_r, zWt_n, P, zMkk P, zMr39 P, zMk39 P] <;> omega) | omega | fail)) only [if_pos, if_neg, wI_id, zLc_lt, zLc_gt, zLc_eq, zLc_le, zLc_ge, Int.reduceEq, Int.reduceLE, Int.reduceLT, Int.reduceNeg, Int.reduceAdd, Int.reduceMul, Int.reduceSub, not_true_eq_false, not_false_eq_true, reduceIte, zPo_v, zPo_n, zPo_t, zKl_i, zKl_r, zKl_n, zKl_l, gK_sI, gK_sJ, gK_sR, gK_sIA, gK_sJA, gR_sI, gR_sJ, gJ_sI, gI_sJ, gI_sR, gJ_sR, gR_sIA, gJ_sIA, Nat.reduceLeDiff, Nat.reduceEqDiff, and_self, and_true, true_and, and_false, false_and, eX6_lived_0, eX6_lived_1, eX6_lived_4, eX6_lived_5, eX6_lived_6, eX6_lived_9, eX6_lived_10, eX6_lived_11, eX6_lived_14, eX6_lived_17, eX6_lived_18, eX6_lived_21, eX6_lived_24, eX6_lived_25, eX6_lived_26, eX6_lived_29, eX6_lived_30, eX6_lived_31, eX6_lived_34, eX6_lived_37, eX6_lived_38, eX6_lived_40, eX6_lived_43, eX6_lived_in, P, zMkk P, zMr39 P, zMk39 P, cM_refuse (P9 _)]
        exact h2)
    simp (disch := (first | (simp only [gK_sI, gK_sJ, gK_sR, gK_sIA, gK_sJA, gR_sI, gR_sJ, gR_sIA, Nat.reduceLeDiff, Nat.reduceEqDiff, Nat.reduceLT, Int.reduceLE, Int.reduceLT, Int.reduceEq, zWt_i, zWt_l, zWt_r, zWt_n, K, zXkk K, zXr23 K, zXk23 K, zXh0 K] <;> omega) | omega | fail)) only [if_pos, if_neg, wI_id, zLc_lt, zLc_gt, zLc_eq, zLc_le, zLc_ge, Int.reduceEq, Int.reduceLE, Int.reduceLT, Int.reduceNeg, Int.reduceAdd, Int.reduceMul, Int.reduceSub, not_true_eq_false, not_false_eq_true, reduceIte, zPo_v, zPo_n, zPo_t, zKl_i, zKl_r, zKl_n, zKl_l, gK_sI, gK_sJ, gK_sR, gK_sIA, gK_sJA, gR_sI, gR_sJ, gJ_sI, gI_sJ, gI_sR, gJ_sR, gR_sIA, gJ_sIA, Nat.reduceLeDiff, Nat.reduceEqDiff, and_self, and_true, true_and, and_false, false_and, eX0_lived_0, eX0_lived_1, eX0_lived_2, eX0_lived_3, eX0_lived_4, eX0_lived_7, eX0_lived_10, eX0_lived_13, eX0_lived_14, eX0_lived_17, eX0_lived_18, eX0_lived_21, eX0_lived_24, eX0_lived_25, eX0_lived_28, eX0_lived_30, eX0_lived_33, eX0_lived_34, eX0_lived_37, eX0_lived_40, eX0_lived_41, eX0_lived_44, eX0_lived_45, eX0_lived_48, eX0_lived_49, eX0_lived_50, tX0_lived, eX0_lived_in, K, zXkk K, zXr23 K, zXk23 K, zXh0 K, kX0_isIn, c, gI_sI_eq, zU_eq]
    exact h9
/-! what is fed -/
def fFour (F : Int → Int) (p x : Int) : Int → Int := zU (zU (zU (zU F p (zB (zB (zShr x 24)))) (p + 1) (zB (zB (zShr x 16)))) (p + 2) (zB (zB (zShr x 8)))) (p + 3) (zB (zB (zShr x 0)))
theorem kX0_lay {h : zHp} {Q : zRs → Prop} {x p : Int} {F : Int → Int} (K : zXk h) (p0 : 0 ≤ p) (p1 : p + 4 ≤ 900) (hQ : Q (zRn (sI (sIA h 71 (fFour F p x)) 65 2 (p + 4)))) : zCm mX0_lay d [zr (some 65), zi x] (sI (sIA h 71 F) 65 2 p) Q := by
  have e1 : p + 1 + 1 = p + 2 := by omega
  have e2 : p + 2 + 1 = p + 3 := by omega
  have e3 : p + 3 + 1 = p + 4 := by omega
  have com : ∀ F y z j, sI (sI (sIA h 71 F) 65 2 y) 71 j z = sI (sIA h 71 (zU F j z)) 65 2 y := fun F y z j => by
    have e : sI (sI (sIA h 71 F) 65 2 y) 71 j z = sI (sI (sIA h 71 F) 71 j z) 65 2 y := by
      show sIA (sIA (sIA h 71 F) 65 (zU (gI (sIA h 71 F) 65) 2 y)) 71 (zU (gI (sIA (sIA h 71 F) 65 (zU (gI (sIA h 71 F) 65) 2 y)) 71) j z) = sIA (sIA (sIA h 71 F) 71 (zU (gI (sIA h 71 F) 71) j z)) 65 (zU (gI (sIA (sIA h 71 F) 71 (zU (gI (sIA h 71 F) 71) j z)) 65) 2 y)
      rw [gI_sIA_ne (show (71 : Nat) ≠ 65 by decide), gI_sIA_ne (h := sIA h 71 F) (show (65 : Nat) ≠ 71 by decide), sIA_comm (by decide)]
    rw [e, sIA_sI]
  have rd : ∀ F y, gI (sI (sIA h 71 F) 65 2 y) 65 2 = y := fun F y => by rw [gI_sI_eq, zU_eq]
  have st : ∀ F y z, sI (sI (sIA h 71 F) 65 2 y) 65 2 z = sI (sIA h 71 F) 65 2 z := fun F y z => sI2
  unfold fFour at hQ
  simp (disch := (first | (simp only [gK_sI, gK_sJ, gK_sR, gK_sIA, gK_sJA, gR_sI, gR_sJ, gR_sIA, Nat.reduceLeDiff, Nat.reduceEqDiff, Nat.reduceLT, Int.reduceLE, Int.reduceLT, Int.reduceEq, zWt_i, zWt_l, zWt_r, zWt_n, K, zXkk K, zXr1 K, zXk1 K, zXh0 K] <;> omega) | omega | fail)) only [if_pos, if_neg, wI_id, zLc_lt, zLc_gt, zLc_eq, zLc_le, zLc_ge, Int.reduceEq, Int.reduceLE, Int.reduceLT, Int.reduceNeg, Int.reduceAdd, Int.reduceMul, Int.reduceSub, not_true_eq_false, not_false_eq_true, reduceIte, zPo_v, zPo_n, zPo_t, zKl_i, zKl_r, zKl_n, zKl_l, gK_sI, gK_sJ, gK_sR, gK_sIA, gK_sJA, gR_sI, gR_sJ, gJ_sI, gI_sJ, gI_sR, gJ_sR, gR_sIA, gJ_sIA, Nat.reduceLeDiff, Nat.reduceEqDiff, and_self, and_true, true_and, and_false, false_and, eX0_lay_0, eX0_lay_2, eX0_lay_4, eX0_lay_7, eX0_lay_8, eX0_lay_11, eX0_lay_12, eX0_lay_15, eX0_lay_16, eX0_lay_17, eX0_lay_18, eX0_lay_19, eX0_lay_20, eX0_lay_21, eX0_lay_22, eX0_lay_25, eX0_lay_26, eX0_lay_27, eX0_lay_30, eX0_lay_33, eX0_lay_36, tX0_lay, eX0_lay_in, eX0_lay_3, K, zXkk K, zXr1 K, zXk1 K, zXh0 K, com, rd, st, e1, e2, e3]
  exact hQ
theorem kM_four {h : zHp} {Q : zRs → Prop} {x p : Int} {F : Int → Int} (P : zMk h) (p0 : 0 ≤ p) (p1 : p + 4 ≤ 900) (hQ : Q (zRn (sI (sIA h 119 (fFour F p x)) 113 10 (p + 4)))) : zCm mX6_four d [zr (some 113), zi x] (sI (sIA h 119 F) 113 10 p) Q := by
  have e1 : p + 1 + 1 = p + 2 := by omega
  have e2 : p + 2 + 1 = p + 3 := by omega
  have e3 : p + 3 + 1 = p + 4 := by omega
  have com : ∀ F y z j, sI (sI (sIA h 119 F) 113 10 y) 119 j z = sI (sIA h 119 (zU F j z)) 113 10 y := fun F y z j => by
    have e : sI (sI (sIA h 119 F) 113 10 y) 119 j z = sI (sI (sIA h 119 F) 119 j z) 113 10 y := by
      show sIA (sIA (sIA h 119 F) 113 (zU (gI (sIA h 119 F) 113) 10 y)) 119 (zU (gI (sIA (sIA h 119 F) 113 (zU (gI (sIA h 119 F) 113) 10 y)) 119) j z) = sIA (sIA (sIA h 119 F) 119 (zU (gI (sIA h 119 F) 119) j z)) 113 (zU (gI (sIA (sIA h 119 F) 119 (zU (gI (sIA h 119 F) 119) j z)) 113) 10 y)
      rw [gI_sIA_ne (show (119 : Nat) ≠ 113 by decide), gI_sIA_ne (h := sIA h 119 F) (show (113 : Nat) ≠ 119 by decide), sIA_comm (by decide)]
    rw [e, sIA_sI]
  have rd : ∀ F y, gI (sI (sIA h 119 F) 113 10 y) 113 10 = y := fun F y => by rw [gI_sI_eq, zU_eq]
  have st : ∀ F y z, sI (sI (sIA h 119 F) 113 10 y) 113 10 z = sI (sIA h 119 F) 113 10 z := fun F y z => sI2
  unfold fFour at hQ
  simp (disch := (first | (simp only [gK_sI, gK_sJ, gK_sR, gK_sIA, gK_sJA, gR_sI, gR_sJ, gR_sIA, Nat.reduceLeDiff, Nat.reduceEqDiff, Nat.reduceLT, Int.reduceLE, Int.reduceLT, Int.reduceEq, zWt_i, zWt_l, zWt_r, zWt_n, P, zMkk P, zMr8 P, zMk8 P] <;> omega) | omega | fail)) only [if_pos, if_neg, wI_id, zLc_lt, zLc_gt, zLc_eq, zLc_le, zLc_ge, Int.reduceEq, Int.reduceLE, Int.reduceLT, Int.reduceNeg, Int.reduceAdd, Int.reduceMul, Int.reduceSub, not_true_eq_false, not_false_eq_true, reduceIte, zPo_v, zPo_n, zPo_t, zKl_i, zKl_r, zKl_n, zKl_l, gK_sI, gK_sJ, gK_sR, gK_sIA, gK_sJA, gR_sI, gR_sJ, gJ_sI, gI_sJ, gI_sR, gJ_sR, gR_sIA, gJ_sIA, Nat.reduceLeDiff, Nat.reduceEqDiff, and_self, and_true, true_and, and_false, false_and, eX6_four_0, eX6_four_2, eX6_four_4, eX6_four_7, eX6_four_8, eX6_four_11, eX6_four_12, eX6_four_15, eX6_four_16, eX6_four_17, eX6_four_18, eX6_four_19, eX6_four_20, eX6_four_21, eX6_four_22, eX6_four_25, eX6_four_26, eX6_four_27, eX6_four_30, eX6_four_33, eX6_four_36, eX6_four_in, eX6_four_3, P, zMkk P, zMr8 P, zMk8 P, com, rd, st, e1, e2, e3]
  exact hQ
theorem sI_id {h : zHp} {b : Nat} {j : Int} : sI h b j (gI h b j) = h := by
  show sIA h b (zU (gI h b) j (gI h b j)) = h
  rw [zU_self]
  exact sIA_id
theorem fFour_eq {F G : Int → Int} {p x k : Int} (e : k < p → F k = G k) (p0 : 0 ≤ p) (hk : k < p + 4) : fFour F p x k = fFour G p x k := by
  unfold fFour zU
  (repeat' split) <;> first | rfl | exact e (by omega)
theorem jO_feed {v w x y z : Int} : zOp zi d mX0_feed mX6_feed [zi v, zi w, zi x, zi y, zi z] := fun Q h a nm R k => by
  have K := zRxk R
  have P := zRmk R
  obtain ⟨t1, t2, t3⟩ := zRtd R
  have tp := zRtp R
  by_cases c : gI h 113 10 + 20 ≤ 900
  · generalize hp : gI h 113 10 = p at *
    have eX : h = sI (sIA h 71 (gI h 71)) 65 2 p := by
      rw [sIA_id, ← t1]
      exact sI_id.symm
    have h5 : ∀ Q2 : zRs → Prop, Q2 (zRv (zi (p + 20)) (sI (sIA h 71 (fFour (fFour (fFour (fFour (fFour (gI h 71) p v) (p + 4) w) (p + 8) x) (p + 12) y) (p + 16) z)) 65 2 (p + 20))) → zCm mX0_feed d [zr (some 65), zi v, zi w, zi x, zi y, zi z] (sI (sIA h 71 (gI h 71)) 65 2 p) Q2 := fun Q2 hq => by
      have KK : ∀ F y, zXk (sI (sIA h 71 F) 65 2 y) := fun _ _ => K
      have rd : ∀ F y, gI (sI (sIA h 71 F) 65 2 y) 65 2 = y := fun F y => by rw [gI_sI_eq, zU_eq]
      have f1 : p + 4 + 4 = p + 8 := by omega
      have f2 : p + 8 + 4 = p + 12 := by omega
      have f3 : p + 12 + 4 = p + 16 := by omega
      have f4 : p + 16 + 4 = p + 20 := by omega
      simp (disch := (first | (simp only [gK_sI, gK_sJ, gK_sR, gK_sIA, gK_sJA, gR_sI, gR_sJ, gR_sIA, Nat.reduceLeDiff, Nat.reduceEqDiff, Nat.reduceLT, Int.reduceLE, Int.reduceLT, Int.reduceEq, zWt_i, zWt_l, zWt_r, zWt_n, K, zXkk K, zXh0 K] <;> omega) | omega | fail)) only [if_pos, if_neg, wI_id, zLc_lt, zLc_gt, zLc_eq, zLc_le, zLc_ge, Int.reduceEq, Int.reduceLE, Int.reduceLT, Int.reduceNeg, Int.reduceAdd, Int.reduceMul, Int.reduceSub, not_true_eq_false, not_false_eq_true, reduceIte, zPo_v, zPo_n, zPo_t, zKl_i, zKl_r, zKl_n, zKl_l, gK_sI, gK_sJ, gK_sR, gK_sIA, gK_sJA, gR_sI, gR_sJ, gJ_sI, gI_sJ, gI_sR, gJ_sR, gR_sIA, gJ_sIA, Nat.reduceLeDiff, Nat.reduceEqDiff, and_self, and_true, true_and, and_false, false_and, eX0_feed_0, eX0_feed_1, eX0_feed_4, eX0_feed_6, eX0_feed_7, eX0_feed_10, eX0_feed_13, eX0_feed_14, eX0_feed_15, eX0_feed_16, eX0_feed_17, eX0_feed_20, eX0_feed_21, eX0_feed_22, eX0_feed_25, eX0_feed_26, eX0_feed_27, eX0_feed_30, eX0_feed_31, eX0_feed_33, eX0_feed_36, eX0_feed_37, eX0_feed_39, eX0_feed_42, eX0_feed_43, eX0_feed_46, tX0_feed, eX0_feed_in, K, zXkk K, zXh0 K, rd]
      refine kX0_lay K (by omega) (by omega) ?_
      simp (disch := (first | (simp only [gK_sI, gK_sJ, gK_sR, gK_sIA, gK_sJA, gR_sI, gR_sJ, gR_sIA, Nat.reduceLeDiff, Nat.reduceEqDiff, Nat.reduceLT, Int.reduceLE, Int.reduceLT, Int.reduceEq, zWt_i, zWt_l, zWt_r, zWt_n, K, zXkk K, zXh0 K] <;> omega) | omega | fail)) only [if_pos, if_neg, wI_id, zLc_lt, zLc_gt, zLc_eq, zLc_le, zLc_ge, Int.reduceEq, Int.reduceLE, Int.reduceLT, Int.reduceNeg, Int.reduceAdd, Int.reduceMul, Int.reduceSub, not_true_eq_false, not_false_eq_true, reduceIte, zPo_v, zPo_n, zPo_t, zKl_i, zKl_r, zKl_n, zKl_l, gK_sI, gK_sJ, gK_sR, gK_sIA, gK_sJA, gR_sI, gR_sJ, gJ_sI, gI_sJ, gI_sR, gJ_sR, gR_sIA, gJ_sIA, Nat.reduceLeDiff, Nat.reduceEqDiff, and_self, and_true, true_and, and_false, false_and, eX0_feed_0, eX0_feed_1, eX0_feed_4, eX0_feed_6, eX0_feed_7, eX0_feed_10, eX0_feed_13, eX0_feed_14, eX0_feed_15, eX0_feed_16, eX0_feed_17, eX0_feed_20, eX0_feed_21, eX0_feed_22, eX0_feed_25, eX0_feed_26, eX0_feed_27, eX0_feed_30, eX0_feed_31, eX0_feed_33, eX0_feed_36, eX0_feed_37, eX0_feed_39, eX0_feed_42, eX0_feed_43, eX0_feed_46, tX0_feed, eX0_feed_in]
      refine kX0_lay K (by omega) (by omega) ?_
      rw [f1]
      simp (disch := (first | (simp only [gK_sI, gK_sJ, gK_sR, gK_sIA, gK_sJA, gR_sI, gR_sJ, gR_sIA, Nat.reduceLeDiff, Nat.reduceEqDiff, Nat.reduceLT, Int.reduceLE, Int.reduceLT, Int.reduceEq, zWt_i, zWt_l, zWt_r, zWt_n, K, zXkk K, zXh0 K] <;> omega) | omega | fail)) only [if_pos, if_neg, wI_id, zLc_lt, zLc_gt, zLc_eq, zLc_le, zLc_ge, Int.reduceEq, Int.reduceLE, Int.reduceLT, Int.reduceNeg, Int.reduceAdd, Int.reduceMul, Int.reduceSub, not_true_eq_false, not_false_eq_true, reduceIte, zPo_v, zPo_n, zPo_t, zKl_i, zKl_r, zKl_n, zKl_l, gK_sI, gK_sJ, gK_sR, gK_sIA, gK_sJA, gR_sI, gR_sJ, gJ_sI, gI_sJ, gI_sR, gJ_sR, gR_sIA, gJ_sIA, Nat.reduceLeDiff, Nat.reduceEqDiff, and_self, and_true, true_and, and_false, false_and, eX0_feed_0, eX0_feed_1, eX0_feed_4, eX0_feed_6, eX0_feed_7, eX0_feed_10, eX0_feed_13, eX0_feed_14, eX0_feed_15, eX0_feed_16, eX0_feed_17, eX0_feed_20, eX0_feed_21, eX0_feed_22, eX0_feed_25, eX0_feed_26, eX0_feed_27, eX0_feed_30, eX0_feed_31, eX0_feed_33, eX0_feed_36, eX0_feed_37, eX0_feed_39, eX0_feed_42, eX0_feed_43, eX0_feed_46, tX0_feed, eX0_feed_in]
      refine kX0_lay K (by omega) (by omega) ?_
      rw [f2]
      simp (disch := (first | (simp only [gK_sI, gK_sJ, gK_sR, gK_sIA, gK_sJA, gR_sI, gR_sJ, gR_sIA, Nat.reduceLeDiff, Nat.reduceEqDiff, Nat.reduceLT, Int.reduceLE, Int.reduceLT, Int.reduceEq, zWt_i, zWt_l, zWt_r, zWt_n, K, zXkk K, zXh0 K] <;> omega) | omega | fail)) only [if_pos, if_neg, wI_id, zLc_lt, zLc_gt, zLc_eq, zLc_le, zLc_ge, Int.reduceEq, Int.reduceLE, Int.reduceLT, Int.reduceNeg, Int.reduceAdd, Int.reduceMul, Int.reduceSub, not_true_eq_false, not_false_eq_true, reduceIte, zPo_v, zPo_n, zPo_t, zKl_i, zKl_r, zKl_n, zKl_l, gK_sI, gK_sJ, gK_sR, gK_sIA, gK_sJA, gR_sI, gR_sJ, gJ_sI, gI_sJ, gI_sR, gJ_sR, gR_sIA, gJ_sIA, Nat.reduceLeDiff, Nat.reduceEqDiff, and_self, and_true, true_and, and_false, false_and, eX0_feed_0, eX0_feed_1, eX0_feed_4, eX0_feed_6, eX0_feed_7, eX0_feed_10, eX0_feed_13, eX0_feed_14, eX0_feed_15, eX0_feed_16, eX0_feed_17, eX0_feed_20, eX0_feed_21, eX0_feed_22, eX0_feed_25, eX0_feed_26, eX0_feed_27, eX0_feed_30, eX0_feed_31, eX0_feed_33, eX0_feed_36, eX0_feed_37, eX0_feed_39, eX0_feed_42, eX0_feed_43, eX0_feed_46, tX0_feed, eX0_feed_in]
      refine kX0_lay K (by omega) (by omega) ?_
      rw [f3]
      simp (disch := (first | (simp only [gK_sI, gK_sJ, gK_sR, gK_sIA, gK_sJA, gR_sI, gR_sJ, gR_sIA, Nat.reduceLeDiff, Nat.reduceEqDiff, Nat.reduceLT, Int.reduceLE, Int.reduceLT, Int.reduceEq, zWt_i, zWt_l, zWt_r, zWt_n, K, zXkk K, zXh0 K] <;> omega) | omega | fail)) only [if_pos, if_neg, wI_id, zLc_lt, zLc_gt, zLc_eq, zLc_le, zLc_ge, Int.reduceEq, Int.reduceLE, Int.reduceLT, Int.reduceNeg, Int.reduceAdd, Int.reduceMul, Int.reduceSub, not_true_eq_false, not_false_eq_true, reduceIte, zPo_v, zPo_n, zPo_t, zKl_i, zKl_r, zKl_n, zKl_l, gK_sI, gK_sJ, gK_sR, gK_sIA, gK_sJA, gR_sI, gR_sJ, gJ_sI, gI_sJ, gI_sR, gJ_sR, gR_sIA, gJ_sIA, Nat.reduceLeDiff, Nat.reduceEqDiff, and_self, and_true, true_and, and_false, false_and, eX0_feed_0, eX0_feed_1, eX0_feed_4, eX0_feed_6, eX0_feed_7, eX0_feed_10, eX0_feed_13, eX0_feed_14, eX0_feed_15, eX0_feed_16, eX0_feed_17, eX0_feed_20, eX0_feed_21, eX0_feed_22, eX0_feed_25, eX0_feed_26, eX0_feed_27, eX0_feed_30, eX0_feed_31, eX0_feed_33, eX0_feed_36, eX0_feed_37, eX0_feed_39, eX0_feed_42, eX0_feed_43, eX0_feed_46, tX0_feed, eX0_feed_in]
      refine kX0_lay K (by omega) (by omega) ?_
      rw [f4]
      simp (disch := (first | (simp only [gK_sI, gK_sJ, gK_sR, gK_sIA, gK_sJA, gR_sI, gR_sJ, gR_sIA, Nat.reduceLeDiff, Nat.reduceEqDiff, Nat.reduceLT, Int.reduceLE, Int.reduceLT, Int.reduceEq, zWt_i, zWt_l, zWt_r, zWt_n, K, zXkk K, zXh0 K] <;> omega) | omega | fail)) only [if_pos, if_neg, wI_id, zLc_lt, zLc_gt, zLc_eq, zLc_le, zLc_ge, Int.reduceEq, Int.reduceLE, Int.reduceLT, Int.reduceNeg, Int.reduceAdd, Int.reduceMul, Int.reduceSub, not_true_eq_false, not_false_eq_true, reduceIte, zPo_v, zPo_n, zPo_t, zKl_i, zKl_r, zKl_n, zKl_l, gK_sI, gK_sJ, gK_sR, gK_sIA, gK_sJA, gR_sI, gR_sJ, gJ_sI, gI_sJ, gI_sR, gJ_sR, gR_sIA, gJ_sIA, Nat.reduceLeDiff, Nat.reduceEqDiff, and_self, and_true, true_and, and_false, false_and, eX0_feed_0, eX0_feed_1, eX0_feed_4, eX0_feed_6, eX0_feed_7, eX0_feed_10, eX0_feed_13, eX0_feed_14, eX0_feed_15, eX0_feed_16, eX0_feed_17, eX0_feed_20, eX0_feed_21, eX0_feed_22, eX0_feed_25, eX0_feed_26, eX0_feed_27, eX0_feed_30, eX0_feed_31, eX0_feed_33, eX0_feed_36, eX0_feed_37, eX0_feed_39, eX0_feed_42, eX0_feed_43, eX0_feed_46, tX0_feed, eX0_feed_in, rd]
      exact hq
    rw [← eX] at h5
    refine h5 Q ?_
    generalize hF : fFour (fFour (fFour (fFour (fFour (gI h 71) p v) (p + 4) w) (p + 8) x) (p + 12) y) (p + 16) z = FX at *
    refine k (p + 20) (sI (sIA h 71 FX) 65 2 (p + 20)) ⟨by rw [gI_sI_ne (by decide), gI_sIA_ne (by decide)], rfl, rfl⟩ (fun Q2 h2 => ?_)
    generalize hh1 : sI (sIA h 71 FX) 65 2 (p + 20) = h1 at *
    have i119 : gI h1 119 = gI h 119 := by rw [← hh1, gI_sI_ne (by decide), gI_sIA_ne (by decide)]
    have i113 : gI h1 113 = gI h 113 := by rw [← hh1, gI_sI_ne (by decide), gI_sIA_ne (by decide)]
    have P1 : zMk h1 := by rw [← hh1]; exact P
    have eM : h1 = sI (sIA h1 119 (gI h1 119)) 113 10 p := by
      have e9 : gI h1 113 10 = p := by rw [i113]; exact hp
      rw [sIA_id, ← e9]
      exact sI_id.symm
    have h6 : ∀ Q2 : zRs → Prop, Q2 (zRv (zi (p + 20)) (sI (sIA h1 119 (fFour (fFour (fFour (fFour (fFour (gI h1 119) p v) (p + 4) w) (p + 8) x) (p + 12) y) (p + 16) z)) 113 10 (p + 20))) → zCm mX6_feed d [zr (some 113), zi v, zi w, zi x, zi y, zi z] (sI (sIA h1 119 (gI h1 119)) 113 10 p) Q2 := fun Q2 hq => by
      have rd : ∀ F y, gI (sI (sIA h1 119 F) 113 10 y) 113 10 = y := fun F y => by rw [gI_sI_eq, zU_eq]
      have f1 : p + 4 + 4 = p + 8 := by omega
      have f2 : p + 8 + 4 = p + 12 := by omega
      have f3 : p + 12 + 4 = p + 16 := by omega
      have f4 : p + 16 + 4 = p + 20 := by omega
      simp (disch := (first | (simp only [gK_sI, gK_sJ, gK_sR, gK_sIA, gK_sJA, gR_sI, gR_sJ, gR_sIA, Nat.reduceLeDiff, Nat.reduceEqDiff, Nat.reduceLT, Int.reduceLE, Int.reduceLT, Int.reduceEq, zWt_i, zWt_l, zWt_r, zWt_n, P1, zMkk P1] <;> omega) | omega | fail)) only [if_pos, if_neg, wI_id, zLc_lt, zLc_gt, zLc_eq, zLc_le, zLc_ge, Int.reduceEq, Int.reduceLE, Int.reduceLT, Int.reduceNeg, Int.reduceAdd, Int.reduceMul, Int.reduceSub, not_true_eq_false, not_false_eq_true, reduceIte, zPo_v, zPo_n, zPo_t, zKl_i, zKl_r, zKl_n, zKl_l, gK_sI, gK_sJ, gK_sR, gK_sIA, gK_sJA, gR_sI, gR_sJ, gJ_sI, gI_sJ, gI_sR, gJ_sR, gR_sIA, gJ_sIA, Nat.reduceLeDiff, Nat.reduceEqDiff, and_self, and_true, true_and, and_false, false_and, eX6_feed_0, eX6_feed_1, eX6_feed_4, eX6_feed_6, eX6_feed_7, eX6_feed_10, eX6_feed_13, eX6_feed_14, eX6_feed_15, eX6_feed_16, eX6_feed_17, eX6_feed_20, eX6_feed_21, eX6_feed_22, eX6_feed_25, eX6_feed_26, eX6_feed_27, eX6_feed_30, eX6_feed_31, eX6_feed_33, eX6_feed_36, eX6_feed_37, eX6_feed_39, eX6_feed_42, eX6_feed_43, eX6_feed_46, eX6_feed_in, P1, zMkk P1, rd]
      refine kM_four P1 (by omega) (by omega) ?_
      simp (disch := (first | (simp only [gK_sI, gK_sJ, gK_sR, gK_sIA, gK_sJA, gR_sI, gR_sJ, gR_sIA, Nat.reduceLeDiff, Nat.reduceEqDiff, Nat.reduceLT, Int.reduceLE, Int.reduceLT, Int.reduceEq, zWt_i, zWt_l, zWt_r, zWt_n, P1, zMkk P1] <;> omega) | omega | fail)) only [if_pos, if_neg, wI_id, zLc_lt, zLc_gt, zLc_eq, zLc_le, zLc_ge, Int.reduceEq, Int.reduceLE, Int.reduceLT, Int.reduceNeg, Int.reduceAdd, Int.reduceMul, Int.reduceSub, not_true_eq_false, not_false_eq_true, reduceIte, zPo_v, zPo_n, zPo_t, zKl_i, zKl_r, zKl_n, zKl_l, gK_sI, gK_sJ, gK_sR, gK_sIA, gK_sJA, gR_sI, gR_sJ, gJ_sI, gI_sJ, gI_sR, gJ_sR, gR_sIA, gJ_sIA, Nat.reduceLeDiff, Nat.reduceEqDiff, and_self, and_true, true_and, and_false, false_and, eX6_feed_0, eX6_feed_1, eX6_feed_4, eX6_feed_6, eX6_feed_7, eX6_feed_10, eX6_feed_13, eX6_feed_14, eX6_feed_15, eX6_feed_16, eX6_feed_17, eX6_feed_20, eX6_feed_21, eX6_feed_22, eX6_feed_25, eX6_feed_26, eX6_feed_27, eX6_feed_30, eX6_feed_31, eX6_feed_33, eX6_feed_36, eX6_feed_37, eX6_feed_39, eX6_feed_42, eX6_feed_43, eX6_feed_46, eX6_feed_in]
      refine kM_four P1 (by omega) (by omega) ?_
      rw [f1]
      simp (disch := (first | (simp only [gK_sI, gK_sJ, gK_sR, gK_sIA, gK_sJA, gR_sI, gR_sJ, gR_sIA, Nat.reduceLeDiff, Nat.reduceEqDiff, Nat.reduceLT, Int.reduceLE, Int.reduceLT, Int.reduceEq, zWt_i, zWt_l, zWt_r, zWt_n, P1, zMkk P1] <;> omega) | omega | fail)) only [if_pos, if_neg, wI_id, zLc_lt, zLc_gt, zLc_eq, zLc_le, zLc_ge, Int.reduceEq, Int.reduceLE, Int.reduceLT, Int.reduceNeg, Int.reduceAdd, Int.reduceMul, Int.reduceSub, not_true_eq_false, not_false_eq_true, reduceIte, zPo_v, zPo_n, zPo_t, zKl_i, zKl_r, zKl_n, zKl_l, gK_sI, gK_sJ, gK_sR, gK_sIA, gK_sJA, gR_sI, gR_sJ, gJ_sI, gI_sJ, gI_sR, gJ_sR, gR_sIA, gJ_sIA, Nat.reduceLeDiff, Nat.reduceEqDiff, and_self, and_true, true_and, and_false, false_and, eX6_feed_0, eX6_feed_1, eX6_feed_4, eX6_feed_6, eX6_feed_7, eX6_feed_10, eX6_feed_13, eX6_feed_14, eX6_feed_15, eX6_feed_16, eX6_feed_17, eX6_feed_20, eX6_feed_21, eX6_feed_22, eX6_feed_25, eX6_feed_26, eX6_feed_27, eX6_feed_30, eX6_feed_31, eX6_feed_33, eX6_feed_36, eX6_feed_37, eX6_feed_39, eX6_feed_42, eX6_feed_43, eX6_feed_46, eX6_feed_in]
      refine kM_four P1 (by omega) (by omega) ?_
      rw [f2]
      simp (disch := (first | (simp only [gK_sI, gK_sJ, gK_sR, gK_sIA, gK_sJA, gR_sI, gR_sJ, gR_sIA, Nat.reduceLeDiff, Nat.reduceEqDiff, Nat.reduceLT, Int.reduceLE, Int.reduceLT, Int.reduceEq, zWt_i, zWt_l, zWt_r, zWt_n, P1, zMkk P1] <;> omega) | omega | fail)) only [if_pos, if_neg, wI_id, zLc_lt, zLc_gt, zLc_eq, zLc_le, zLc_ge, Int.reduceEq, Int.reduceLE, Int.reduceLT, Int.reduceNeg, Int.reduceAdd, Int.reduceMul, Int.reduceSub, not_true_eq_false, not_false_eq_true, reduceIte, zPo_v, zPo_n, zPo_t, zKl_i, zKl_r, zKl_n, zKl_l, gK_sI, gK_sJ, gK_sR, gK_sIA, gK_sJA, gR_sI, gR_sJ, gJ_sI, gI_sJ, gI_sR, gJ_sR, gR_sIA, gJ_sIA, Nat.reduceLeDiff, Nat.reduceEqDiff, and_self, and_true, true_and, and_false, false_and, eX6_feed_0, eX6_feed_1, eX6_feed_4, eX6_feed_6, eX6_feed_7, eX6_feed_10, eX6_feed_13, eX6_feed_14, eX6_feed_15, eX6_feed_16, eX6_feed_17, eX6_feed_20, eX6_feed_21, eX6_feed_22, eX6_feed_25, eX6_feed_26, eX6_feed_27, eX6_feed_30, eX6_feed_31, eX6_feed_33, eX6_feed_36, eX6_feed_37, eX6_feed_39, eX6_feed_42, eX6_feed_43, eX6_feed_46, eX6_feed_in]
      refine kM_four P1 (by omega) (by omega) ?_
      rw [f3]
      simp (disch := (first | (simp only [gK_sI, gK_sJ, gK_sR, gK_sIA, gK_sJA, gR_sI, gR_sJ, gR_sIA, Nat.reduceLeDiff, Nat.reduceEqDiff, Nat.reduceLT, Int.reduceLE, Int.reduceLT, Int.reduceEq, zWt_i, zWt_l, zWt_r, zWt_n, P1, zMkk P1] <;> omega) | omega | fail)) only [if_pos, if_neg, wI_id, zLc_lt, zLc_gt, zLc_eq, zLc_le, zLc_ge, Int.reduceEq, Int.reduceLE, Int.reduceLT, Int.reduceNeg, Int.reduceAdd, Int.reduceMul, Int.reduceSub, not_true_eq_false, not_false_eq_true, reduceIte, zPo_v, zPo_n, zPo_t, zKl_i, zKl_r, zKl_n, zKl_l, gK_sI, gK_sJ, gK_sR, gK_sIA, gK_sJA, gR_sI, gR_sJ, gJ_sI, gI_sJ, gI_sR, gJ_sR, gR_sIA, gJ_sIA, Nat.reduceLeDiff, Nat.reduceEqDiff, and_self, and_true, true_and, and_false, false_and, eX6_feed_0, eX6_feed_1, eX6_feed_4, eX6_feed_6, eX6_feed_7, eX6_feed_10, eX6_feed_13, eX6_feed_14, eX6_feed_15, eX6_feed_16, eX6_feed_17, eX6_feed_20, eX6_feed_21, eX6_feed_22, eX6_feed_25, eX6_feed_26, eX6_feed_27, eX6_feed_30, eX6_feed_31, eX6_feed_33, eX6_feed_36, eX6_feed_37, eX6_feed_39, eX6_feed_42, eX6_feed_43, eX6_feed_46, eX6_feed_in]
      refine kM_four P1 (by omega) (by omega) ?_
      rw [f4]
      simp (disch := (first | (simp only [gK_sI, gK_sJ, gK_sR, gK_sIA, gK_sJA, gR_sI, gR_sJ, gR_sIA, Nat.reduceLeDiff, Nat.reduceEqDiff, Nat.reduceLT, Int.reduceLE, Int.reduceLT, Int.reduceEq, zWt_i, zWt_l, zWt_r, zWt_n, P1, zMkk P1] <;> omega) | omega | fail)) only [if_pos, if_neg, wI_id, zLc_lt, zLc_gt, zLc_eq, zLc_le, zLc_ge, Int.reduceEq, Int.reduceLE, Int.reduceLT, Int.reduceNeg, Int.reduceAdd, Int.reduceMul, Int.reduceSub, not_true_eq_false, not_false_eq_true, reduceIte, zPo_v, zPo_n, zPo_t, zKl_i, zKl_r, zKl_n, zKl_l, gK_sI, gK_sJ, gK_sR, gK_sIA, gK_sJA, gR_sI, gR_sJ, gJ_sI, gI_sJ, gI_sR, gJ_sR, gR_sIA, gJ_sIA, Nat.reduceLeDiff, Nat.reduceEqDiff, and_self, and_true, true_and, and_false, false_and, eX6_feed_0, eX6_feed_1, eX6_feed_4, eX6_feed_6, eX6_feed_7, eX6_feed_10, eX6_feed_13, eX6_feed_14, eX6_feed_15, eX6_feed_16, eX6_feed_17, eX6_feed_20, eX6_feed_21, eX6_feed_22, eX6_feed_25, eX6_feed_26, eX6_feed_27, eX6_feed_30, eX6_feed_31, eX6_feed_33, eX6_feed_36, eX6_feed_37, eX6_feed_39, eX6_feed_42, eX6_feed_43, eX6_feed_46, eX6_feed_in, rd]
      exact hq
    rw [← eM] at h6
    refine h6 Q2 ?_
    rw [i119]
    generalize hG : fFour (fFour (fFour (fFour (fFour (gI h 119) p v) (p + 4) w) (p + 8) x) (p + 12) y) (p + 16) z = GX at *
    have agree : ∀ k, 0 ≤ k → k < p + 20 → FX k = GX k := fun k k0 k1 => by
      rw [← hF, ← hG]
      refine fFour_eq (fun q1 => fFour_eq (fun q2 => fFour_eq (fun q3 => fFour_eq (fun q4 => fFour_eq (fun q5 => tp k k0 q5) (by omega) (by omega)) (by omega) (by omega)) (by omega) (by omega)) (by omega) (by omega)) (by omega) (by omega)
    have n65 : ∀ j, gI (sI (sIA h1 119 GX) 113 10 (p + 20)) 65 j = gI h1 65 j := fun j => by rw [gI_sI_ne (by decide), gI_sIA_ne (by decide)]
    have x65 : ∀ j, j ≠ 2 → gI h1 65 j = gI h 65 j := fun j hj => by rw [← hh1, gI_sI_eq, zU_ne hj, gI_sIA_ne (by decide)]
    have x652 : gI h1 65 2 = p + 20 := by rw [← hh1, gI_sI_eq, zU_eq]
    have n113 : ∀ j, j ≠ 10 → gI (sI (sIA h1 119 GX) 113 10 (p + 20)) 113 j = gI h 113 j := fun j hj => by rw [gI_sI_eq, zU_ne hj, gI_sIA_ne (by decide), i113]
    have n10 : gI (sI (sIA h1 119 GX) 113 10 (p + 20)) 113 10 = p + 20 := by rw [gI_sI_eq, zU_eq]
    have oth : ∀ b, b ≠ 65 → b ≠ 71 → b ≠ 113 → b ≠ 119 → gI (sI (sIA h1 119 GX) 113 10 (p + 20)) b = gI h b := fun b b1 b2 b3 b4 => by rw [gI_sI_ne b3, gI_sIA_ne b4, ← hh1, gI_sI_ne b1, gI_sIA_ne b2]
    have e71 : gI (sI (sIA h1 119 GX) 113 10 (p + 20)) 71 = FX := by rw [gI_sI_ne (by decide), gI_sIA_ne (by decide), ← hh1, gI_sI_ne (by decide), gI_sIA_eq]
    have e119 : gI (sI (sIA h1 119 GX) 113 10 (p + 20)) 119 = GX := by rw [gI_sI_ne (by decide), gI_sIA_eq]
    have eK : gK h1 = gK h := by rw [← hh1]; rfl
    have eR : gR h1 = gR h := by rw [← hh1]; rfl
    have eJ : gJ h1 = gJ h := by rw [← hh1]; rfl
    have e1 : h1.1 = h.1 := by rw [← hh1]; rfl
    refine h2 _ a nm (zR_keep R (congrArg Prod.fst e1) eK eR (fun b _ _ => congrFun eJ b) (fun b b1 b2 b3 b4 b5 => oth b b1 (by omega) b4 (by omega)) ?_ ?_ ?_ ?_ ?_ ?_ ?_ ⟨?_, ?_⟩) ⟨oth 0 (by decide) (by decide) (by decide) (by decide), congrFun eK 0, congrFun eK 113⟩ (zBu_0 e1)
    · rw [n65, x65 7 (by decide), n113 2 (by decide)]
      exact zRst R
    · have q := zRup R
      rw [← eJ] at q
      exact q
    · rw [n65, x652, n10]
      omega
    · rw [n10, e71, e119]
      exact agree
    · rw [n65, n65, x65 3 (by decide), x65 4 (by decide), n113 16 (by decide), n113 17 (by decide)]
      exact zRfa R
    · rw [oth 112 (by decide) (by decide) (by decide) (by decide), oth 128 (by decide) (by decide) (by decide) (by decide)]
      exact zRla R
    · rw [n65, x65 24 (by decide), n113 40 (by decide)]
      exact zRli R
    · rw [n65, x65 12 (by decide)]
    · rw [n113 41 (by decide)]
  · rw [← t1] at c t2 t3
    simp (disch := (first | (simp only [gK_sI, gK_sJ, gK_sR, gK_sIA, gK_sJA, gR_sI, gR_sJ, gR_sIA, Nat.reduceLeDiff, Nat.reduceEqDiff, Nat.reduceLT, Int.reduceLE, Int.reduceLT, Int.reduceEq, zWt_i, zWt_l, zWt_r, zWt_n, K, zXkk K, zXh0 K] <;> omega) | omega | fail)) only [if_pos, if_neg, wI_id, zLc_lt, zLc_gt, zLc_eq, zLc_le, zLc_ge, Int.reduceEq, Int.reduceLE, Int.reduceLT, Int.reduceNeg, Int.reduceAdd, Int.reduceMul, Int.reduceSub, not_true_eq_false, not_false_eq_true, reduceIte, zPo_v, zPo_n, zPo_t, zKl_i, zKl_r, zKl_n, zKl_l, gK_sI, gK_sJ, gK_sR, gK_sIA, gK_sJA, gR_sI, gR_sJ, gJ_sI, gI_sJ, gI_sR, gJ_sR, gR_sIA, gJ_sIA, Nat.reduceLeDiff, Nat.reduceEqDiff, and_self, and_true, true_and, and_false, false_and, eX0_feed_0, eX0_feed_1, eX0_feed_4, eX0_feed_6, eX0_feed_7, eX0_feed_10, eX0_feed_13, eX0_feed_14, eX0_feed_15, eX0_feed_16, eX0_feed_17, eX0_feed_20, eX0_feed_21, eX0_feed_22, eX0_feed_25, eX0_feed_26, eX0_feed_27, eX0_feed_30, eX0_feed_31, eX0_feed_33, eX0_feed_36, eX0_feed_37, eX0_feed_39, eX0_feed_42, eX0_feed_43, eX0_feed_46, tX0_feed, eX0_feed_in, K, zXkk K, zXh0 K]
    refine k _ h zSc_rf (fun Q2 h2 => ?_)
    rw [t1] at c t2 t3
    simp (disch := (first | (simp only [gK_sI, gK_sJ, gK_sR, gK_sIA, gK_sJA, gR_sI, gR_sJ, gR_sIA, Nat.reduceLeDiff, Nat.reduceEqDiff, Nat.reduceLT, Int.reduceLE, Int.reduceLT, Int.reduceEq, zWt_i, zWt_l, zWt_r, zWt_n, P, zMkk P] <;> omega) | omega | fail)) only [if_pos, if_neg, wI_id, zLc_lt, zLc_gt, zLc_eq, zLc_le, zLc_ge, Int.reduceEq, Int.reduceLE, Int.reduceLT, Int.reduceNeg, Int.reduceAdd, Int.reduceMul, Int.reduceSub, not_true_eq_false, not_false_eq_true, reduceIte, zPo_v, zPo_n, zPo_t, zKl_i, zKl_r, zKl_n, zKl_l, gK_sI, gK_sJ, gK_sR, gK_sIA, gK_sJA, gR_sI, gR_sJ, gJ_sI, gI_sJ, gI_sR, gJ_sR, gR_sIA, gJ_sIA, Nat.reduceLeDiff, Nat.reduceEqDiff, and_self, and_true, true_and, and_false, false_and, eX6_feed_0, eX6_feed_1, eX6_feed_4, eX6_feed_6, eX6_feed_7, eX6_feed_10, eX6_feed_13, eX6_feed_14, eX6_feed_15, eX6_feed_16, eX6_feed_17, eX6_feed_20, eX6_feed_21, eX6_feed_22, eX6_feed_25, eX6_feed_26, eX6_feed_27, eX6_feed_30, eX6_feed_31, eX6_feed_33, eX6_feed_36, eX6_feed_37, eX6_feed_39, eX6_feed_42, eX6_feed_43, eX6_feed_46, eX6_feed_in, P, zMkk P]
    exact h2 h a nm R zSc_rf (zBu_0 rfl)
end J2
