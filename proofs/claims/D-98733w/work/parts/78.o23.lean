/-! ===== BOTH SIDES JOINED, 6: marks, the calls ===== -/
set_option maxRecDepth 100000
theorem zR_gen2 {h h' : zHp} {a nm b mn : Int → Int} (R : zRl h a nm) (hN : gN h ≤ gN h') (hK : ∀ c, c < gN h → gK h' c = gK h c) (hF : ∀ c, gN h' ≤ c → gK h' c = (1000, 0)) (r113 : gR h' 113 = gR h 113) (r65 : gR h' 65 = gR h 65) (r66 : gR h' 66 = gR h 66) (r74 : gR h' 74 0 = gR h 74 0) (r92 : ∀ j, 10 ≤ j → gR h' 92 j = gR h 92 j) (rt : ∀ c, 67 ≤ c → c ≤ 70 → gR h' c = gR h c) (i116 : gI h' 116 = gI h 116) (i117 : gI h' 117 = gI h 117) (j118 : gJ h' 118 = gJ h 118) (irow : ∀ c, zRow h c → gI h' c = gI h c ∧ gJ h' c = gJ h c) (itx : ∀ c, 1 ≤ c → c < 65 → gI h' c = gI h c ∧ gR h' c = gR h c) (at' : gI h' 114 = b) (nm' : gJ h' 115 = mn) (pw' : zPw h' 75 b mn) (iv' : zIv b) (st : gI h' 65 7 = gI h' 113 2) (up : gJ h' 65 8 = gJ h' 113 3 ∧ gJ h' 65 9 = gJ h' 113 4) (td : gI h' 65 2 = gI h' 113 10 ∧ 0 ≤ gI h' 113 10 ∧ gI h' 113 10 ≤ 900) (tp : ∀ k, 0 ≤ k → k < gI h' 113 10 → gI h' 71 k = gI h' 119 k) (fa : gI h' 65 3 = gI h' 113 16 ∧ gI h' 65 4 = gI h' 113 17) (la : ∀ j, 0 ≤ j → j < 5 → gI h' 112 j = gI h' 128 j) (li : gI h' 65 24 = gI h' 113 40) (mm : gI h' 65 12 = gI h' 113 41) (ms : zMs h' b mn (gI h' 113 41)) (vo : zVo h' (gR h' 74 1) b) : zRl h' b mn := by
  have g0 := (zRfr R).1
  have tr := zRtr R
  refine ⟨?_, ?_, ?_, at', nm', pw', iv', st, up, td, tp, fa, ?_, la, li, mm, ms, vo, ?_, ?_, Nat.le_trans g0 hN, hF⟩
  · have q := zRmk R
    unfold zMk at q ⊢
    simp only [hK 113 (by omega), hK 114 (by omega), hK 115 (by omega), hK 116 (by omega), hK 117 (by omega), hK 118 (by omega), hK 119 (by omega), hK 120 (by omega), hK 121 (by omega), hK 122 (by omega), hK 123 (by omega), hK 124 (by omega), hK 125 (by omega), hK 126 (by omega), hK 127 (by omega), hK 128 (by omega), r113]
    exact q
  · have q := zRxk R
    unfold zXk at q ⊢
    simp only [hK 65 (by omega), hK 66 (by omega), hK 67 (by omega), hK 68 (by omega), hK 69 (by omega), hK 70 (by omega), hK 71 (by omega), hK 72 (by omega), hK 73 (by omega), hK 74 (by omega), hK 91 (by omega), hK 108 (by omega), hK 109 (by omega), hK 110 (by omega), hK 111 (by omega), hK 112 (by omega), r65, r66, r74]
    exact q
  · have q := zRwk R
    unfold zWk at q ⊢
    simp only [hK 92 (by omega), hK (92 + 5) (by omega), hK (92 + 6) (by omega), hK (92 + 7) (by omega), hK (92 + 8) (by omega), hK (92 + 9) (by omega), hK (92 + 10) (by omega), hK (92 + 11) (by omega), hK (92 + 12) (by omega), hK (92 + 13) (by omega), hK (92 + 14) (by omega), hK (92 + 15) (by omega), r92 10 (by decide), r92 11 (by decide), r92 12 (by decide), r92 13 (by decide), r92 14 (by decide), r92 15 (by decide), r92 16 (by decide), r92 17 (by decide), r92 18 (by decide), r92 19 (by decide), r92 20 (by decide)]
    exact q
  · rw [i116, i117, j118]
    refine ⟨fun t t0 t1 => ?_, fun t u t0 t1 u0 u1 ne r => ?_⟩
    · rw [rt _ (by omega) (by omega)]
      rcases tr.1 t t0 t1 with q | ⟨r, r1, r2, r3, r4, r5, r6, r7⟩
      · exact Or.inl q
      · refine Or.inr ⟨r, r1, r2, r3, r4, by omega, by rw [hK _ r5]; exact r6, fun k k0 k1 => ?_⟩
        obtain ⟨x1, x2⟩ := irow r ⟨t, t0, t1, r1⟩
        unfold zTv
        rw [x1, x2]
        exact r7 k k0 k1
    · rw [rt _ (by omega) (by omega), rt _ (by omega) (by omega)]
      exact tr.2 t u t0 t1 u0 u1 ne r
  · intro c c0 c1
    obtain ⟨x1, x2⟩ := itx c c0 c1
    rw [hK _ (by omega), x1, x2]
    exact zRtx R c c0 c1
  · intro i hi
    rw [hK _ (by omega), hK _ (by omega)]
    exact zRkx R i hi
section J6
variable {d : Nat}
/-- a house is made like another -/
theorem kX4_be {h : zHp} {Q : zRs → Prop} {H O w o : Nat} {a nm : Int → Int} (h0 : 65 ≤ H) (kH : gK h H = (0, 4)) (rH : gR h H 0 = some w) (kO : gK h O = (0, 4)) (rO : gR h O 0 = some o) (hw : 65 ≤ w) (hd : o + 15 < w ∨ w + 15 < o) (W : zWk h w) (P : zPw h o a nm) (hs4 : a 3 ≤ 4) (hQ : ∀ h', zPw h' w a nm → zPw h' o a nm → zSb w h h' → Q (zRn (sR h' H 1 (gR h' O 1)))) : zCm mX4_be d [zr (some H), zr (some O)] h Q := by
  have kw := zWkk W
  simp (disch := (first | (simp only [gK_sI, gK_sJ, gK_sR, gK_sIA, gK_sJA, gR_sI, gR_sJ, gR_sIA, Nat.reduceLeDiff, Nat.reduceEqDiff, Nat.reduceLT, Int.reduceLE, Int.reduceLT, Int.reduceEq, zWt_i, zWt_l, zWt_r, zWt_n, kH, kO, kw] <;> omega) | omega | fail)) only [if_pos, if_neg, wI_id, zLc_lt, zLc_gt, zLc_eq, zLc_le, zLc_ge, Int.reduceEq, Int.reduceLE, Int.reduceLT, Int.reduceNeg, Int.reduceAdd, Int.reduceMul, Int.reduceSub, not_true_eq_false, not_false_eq_true, reduceIte, zPo_v, zPo_n, zPo_t, zKl_i, zKl_r, zKl_n, zKl_l, gK_sI, gK_sJ, gK_sR, gK_sIA, gK_sJA, gR_sI, gR_sJ, gJ_sI, gI_sJ, gI_sR, gJ_sR, gR_sIA, gJ_sIA, Nat.reduceLeDiff, Nat.reduceEqDiff, and_self, and_true, true_and, and_false, false_and, eX4_be_0, eX4_be_1, eX4_be_4, eX4_be_5, eX4_be_8, eX4_be_11, eX4_be_12, eX4_be_13, eX4_be_16, eX4_be_19, eX4_be_in, kH, kO, rH, rO, kw]
  refine kX_be hw hd W P hs4 (fun h' P1 P2 S => ?_)
  have kH' : gK h' H = (0, 4) := by rw [S.2.1]; exact kH
  have kO' : gK h' O = (0, 4) := by rw [S.2.1]; exact kO
  simp (disch := (first | (simp only [gK_sI, gK_sJ, gK_sR, gK_sIA, gK_sJA, gR_sI, gR_sJ, gR_sIA, Nat.reduceLeDiff, Nat.reduceEqDiff, Nat.reduceLT, Int.reduceLE, Int.reduceLT, Int.reduceEq, zWt_i, zWt_l, zWt_r, zWt_n, kH', kO'] <;> omega) | omega | fail)) only [if_pos, if_neg, wI_id, zLc_lt, zLc_gt, zLc_eq, zLc_le, zLc_ge, Int.reduceEq, Int.reduceLE, Int.reduceLT, Int.reduceNeg, Int.reduceAdd, Int.reduceMul, Int.reduceSub, not_true_eq_false, not_false_eq_true, reduceIte, zPo_v, zPo_n, zPo_t, zKl_i, zKl_r, zKl_n, zKl_l, gK_sI, gK_sJ, gK_sR, gK_sIA, gK_sJA, gR_sI, gR_sJ, gJ_sI, gI_sJ, gI_sR, gJ_sR, gR_sIA, gJ_sIA, Nat.reduceLeDiff, Nat.reduceEqDiff, and_self, and_true, true_and, and_false, false_and, eX4_be_0, eX4_be_1, eX4_be_4, eX4_be_5, eX4_be_8, eX4_be_11, eX4_be_12, eX4_be_13, eX4_be_16, eX4_be_19, eX4_be_in, kH', kO']
  exact hQ h' P1 P2 S
theorem kM_mark {h : zHp} {Q : zRs → Prop} (P : zMk h) (m0 : 0 ≤ gI h 113 41) (m1 : gI h 113 41 ≤ 3) (hf : gI h 113 41 = 3 → Q (zRv (zi (-1)) (sI h 113 2 4))) (hy : gI h 113 41 ≠ 3 → Q (zRv (zi (gI h 113 41 + 1)) (sI (sJA (sIA (sI h 113 41 (gI h 113 41 + 1)) 114 (fCps (gI h 114) 572 0 (gI h 113 41 + 1))) 115 (fCps (gJ h 115) 24 0 (gI h 113 41 + 1))) 113 2 0))) : zCm mX6_mark d [zr (some 113)] h Q := by
  generalize hm : gI h 113 41 = m at *
  by_cases c : m = 3
  · have hf := hf c
    simp (disch := (first | (simp only [gK_sI, gK_sJ, gK_sR, gK_sIA, gK_sJA, gR_sI, gR_sJ, gR_sIA, Nat.reduceLeDiff, Nat.reduceEqDiff, Nat.reduceLT, Int.reduceLE, Int.reduceLT, Int.reduceEq, zWt_i, zWt_l, zWt_r, zWt_n, P, zMkk P] <;> omega) | omega | fail)) only [if_pos, if_neg, wI_id, zLc_lt, zLc_gt, zLc_eq, zLc_le, zLc_ge, Int.reduceEq, Int.reduceLE, Int.reduceLT, Int.reduceNeg, Int.reduceAdd, Int.reduceMul, Int.reduceSub, not_true_eq_false, not_false_eq_true, reduceIte, zPo_v, zPo_n, zPo_t, zKl_i, zKl_r, zKl_n, zKl_l, gK_sI, gK_sJ, gK_sR, gK_sIA, gK_sJA, gR_sI, gR_sJ, gJ_sI, gI_sJ, gI_sR, gJ_sR, gR_sIA, gJ_sIA, Nat.reduceLeDiff, Nat.reduceEqDiff, and_self, and_true, true_and, and_false, false_and, eX6_mark_0, eX6_mark_1, eX6_mark_4, eX6_mark_5, eX6_mark_8, eX6_mark_9, eX6_mark_10, eX6_mark_13, eX6_mark_14, eX6_mark_15, eX6_mark_16, eX6_mark_19, eX6_mark_20, eX6_mark_21, eX6_mark_24, eX6_mark_25, eX6_mark_26, eX6_mark_27, eX6_mark_30, eX6_mark_33, eX6_mark_34, eX6_mark_35, eX6_mark_38, eX6_mark_41, eX6_mark_in, P, zMkk P, hm, cM_refuse P]
    exact hf
  · have hy := hy c
    have P1 : zMk (sI h 113 41 (m + 1)) := P
    have rd : gI (sI h 113 41 (m + 1)) 113 41 = m + 1 := by rw [gI_sI_eq, zU_eq]
    simp (disch := (first | (simp only [gK_sI, gK_sJ, gK_sR, gK_sIA, gK_sJA, gR_sI, gR_sJ, gR_sIA, Nat.reduceLeDiff, Nat.reduceEqDiff, Nat.reduceLT, Int.reduceLE, Int.reduceLT, Int.reduceEq, zWt_i, zWt_l, zWt_r, zWt_n, P, zMkk P] <;> omega) | omega | fail)) only [if_pos, if_neg, wI_id, zLc_lt, zLc_gt, zLc_eq, zLc_le, zLc_ge, Int.reduceEq, Int.reduceLE, Int.reduceLT, Int.reduceNeg, Int.reduceAdd, Int.reduceMul, Int.reduceSub, not_true_eq_false, not_false_eq_true, reduceIte, zPo_v, zPo_n, zPo_t, zKl_i, zKl_r, zKl_n, zKl_l, gK_sI, gK_sJ, gK_sR, gK_sIA, gK_sJA, gR_sI, gR_sJ, gJ_sI, gI_sJ, gI_sR, gJ_sR, gR_sIA, gJ_sIA, Nat.reduceLeDiff, Nat.reduceEqDiff, and_self, and_true, true_and, and_false, false_and, eX6_mark_0, eX6_mark_1, eX6_mark_4, eX6_mark_5, eX6_mark_8, eX6_mark_9, eX6_mark_10, eX6_mark_13, eX6_mark_14, eX6_mark_15, eX6_mark_16, eX6_mark_19, eX6_mark_20, eX6_mark_21, eX6_mark_24, eX6_mark_25, eX6_mark_26, eX6_mark_27, eX6_mark_30, eX6_mark_33, eX6_mark_34, eX6_mark_35, eX6_mark_38, eX6_mark_41, eX6_mark_in, P, zMkk P, hm, rd]
    refine kM_copies P1 (by omega) (by omega) (by omega) (by omega) (by omega) ?_
    have P2 : ∀ F G, zMk (sJA (sIA (sI h 113 41 (m + 1)) 114 F) 115 G) := fun _ _ => P
    have e1 : gI (sI h 113 41 (m + 1)) 114 = gI h 114 := gI_sI_ne (by decide)
    have e2 : gJ (sI h 113 41 (m + 1)) 115 = gJ h 115 := rfl
    rw [e1, e2]
    have rd2 : ∀ F G, gI (sJA (sIA (sI h 113 41 (m + 1)) 114 F) 115 G) 113 41 = m + 1 := fun F G => by
      show gI (sIA (sI h 113 41 (m + 1)) 114 F) 113 41 = m + 1
      rw [gI_sIA_ne (by decide), rd]
    simp (disch := (first | (simp only [gK_sI, gK_sJ, gK_sR, gK_sIA, gK_sJA, gR_sI, gR_sJ, gR_sIA, Nat.reduceLeDiff, Nat.reduceEqDiff, Nat.reduceLT, Int.reduceLE, Int.reduceLT, Int.reduceEq, zWt_i, zWt_l, zWt_r, zWt_n, P, zMkk P] <;> omega) | omega | fail)) only [if_pos, if_neg, wI_id, zLc_lt, zLc_gt, zLc_eq, zLc_le, zLc_ge, Int.reduceEq, Int.reduceLE, Int.reduceLT, Int.reduceNeg, Int.reduceAdd, Int.reduceMul, Int.reduceSub, not_true_eq_false, not_false_eq_true, reduceIte, zPo_v, zPo_n, zPo_t, zKl_i, zKl_r, zKl_n, zKl_l, gK_sI, gK_sJ, gK_sR, gK_sIA, gK_sJA, gR_sI, gR_sJ, gJ_sI, gI_sJ, gI_sR, gJ_sR, gR_sIA, gJ_sIA, Nat.reduceLeDiff, Nat.reduceEqDiff, and_self, and_true, true_and, and_false, false_and, eX6_mark_0, eX6_mark_1, eX6_mark_4, eX6_mark_5, eX6_mark_8, eX6_mark_9, eX6_mark_10, eX6_mark_13, eX6_mark_14, eX6_mark_15, eX6_mark_16, eX6_mark_19, eX6_mark_20, eX6_mark_21, eX6_mark_24, eX6_mark_25, eX6_mark_26, eX6_mark_27, eX6_mark_30, eX6_mark_33, eX6_mark_34, eX6_mark_35, eX6_mark_38, eX6_mark_41, eX6_mark_in, P, zMkk P, gR_sJA, rd2, cM_gives (P2 _ _)]
    exact hy
theorem kM_undo {h : zHp} {Q : zRs → Prop} (P : zMk h) (m0 : 0 ≤ gI h 113 41) (m1 : gI h 113 41 ≤ 3) (hf : gI h 113 41 = 0 → Q (zRv (zi (-1)) (sI h 113 2 6))) (hy : gI h 113 41 ≠ 0 → Q (zRv (zi (gI h 113 41 - 1)) (sI (sI (sJA (sIA h 114 (fCps (gI h 114) 572 (gI h 113 41) 0)) 115 (fCps (gJ h 115) 24 (gI h 113 41) 0)) 113 41 (gI h 113 41 - 1)) 113 2 0))) : zCm mX6_undo d [zr (some 113)] h Q := by
  generalize hm : gI h 113 41 = m at *
  by_cases c : m = 0
  · have hf := hf c
    simp (disch := (first | (simp only [gK_sI, gK_sJ, gK_sR, gK_sIA, gK_sJA, gR_sI, gR_sJ, gR_sIA, Nat.reduceLeDiff, Nat.reduceEqDiff, Nat.reduceLT, Int.reduceLE, Int.reduceLT, Int.reduceEq, zWt_i, zWt_l, zWt_r, zWt_n, P, zMkk P] <;> omega) | omega | fail)) only [if_pos, if_neg, wI_id, zLc_lt, zLc_gt, zLc_eq, zLc_le, zLc_ge, Int.reduceEq, Int.reduceLE, Int.reduceLT, Int.reduceNeg, Int.reduceAdd, Int.reduceMul, Int.reduceSub, not_true_eq_false, not_false_eq_true, reduceIte, zPo_v, zPo_n, zPo_t, zKl_i, zKl_r, zKl_n, zKl_l, gK_sI, gK_sJ, gK_sR, gK_sIA, gK_sJA, gR_sI, gR_sJ, gJ_sI, gI_sJ, gI_sR, gJ_sR, gR_sIA, gJ_sIA, Nat.reduceLeDiff, Nat.reduceEqDiff, and_self, and_true, true_and, and_false, false_and, eX6_undo_0, eX6_undo_1, eX6_undo_4, eX6_undo_7, eX6_undo_8, eX6_undo_10, eX6_undo_13, eX6_undo_14, eX6_undo_15, eX6_undo_16, eX6_undo_19, eX6_undo_20, eX6_undo_23, eX6_undo_24, eX6_undo_25, eX6_undo_28, eX6_undo_29, eX6_undo_30, eX6_undo_33, eX6_undo_34, eX6_undo_35, eX6_undo_38, eX6_undo_41, eX6_undo_in, P, zMkk P, hm, cM_refuse P]
    exact hf
  · have hy := hy c
    simp (disch := (first | (simp only [gK_sI, gK_sJ, gK_sR, gK_sIA, gK_sJA, gR_sI, gR_sJ, gR_sIA, Nat.reduceLeDiff, Nat.reduceEqDiff, Nat.reduceLT, Int.reduceLE, Int.reduceLT, Int.reduceEq, zWt_i, zWt_l, zWt_r, zWt_n, P, zMkk P] <;> omega) | omega | fail)) only [if_pos, if_neg, wI_id, zLc_lt, zLc_gt, zLc_eq, zLc_le, zLc_ge, Int.reduceEq, Int.reduceLE, Int.reduceLT, Int.reduceNeg, Int.reduceAdd, Int.reduceMul, Int.reduceSub, not_true_eq_false, not_false_eq_true, reduceIte, zPo_v, zPo_n, zPo_t, zKl_i, zKl_r, zKl_n, zKl_l, gK_sI, gK_sJ, gK_sR, gK_sIA, gK_sJA, gR_sI, gR_sJ, gJ_sI, gI_sJ, gI_sR, gJ_sR, gR_sIA, gJ_sIA, Nat.reduceLeDiff, Nat.reduceEqDiff, and_self, and_true, true_and, and_false, false_and, eX6_undo_0, eX6_undo_1, eX6_undo_4, eX6_undo_7, eX6_undo_8, eX6_undo_10, eX6_undo_13, eX6_undo_14, eX6_undo_15, eX6_undo_16, eX6_undo_19, eX6_undo_20, eX6_undo_23, eX6_undo_24, eX6_undo_25, eX6_undo_28, eX6_undo_29, eX6_undo_30, eX6_undo_33, eX6_undo_34, eX6_undo_35, eX6_undo_38, eX6_undo_41, eX6_undo_in, P, zMkk P, hm]
    refine kM_copies P (by omega) (by omega) (by omega) (by omega) (by omega) ?_
    have rd : ∀ F G, gI (sJA (sIA h 114 F) 115 G) 113 41 = m := fun F G => by
      show gI (sIA h 114 F) 113 41 = m
      rw [gI_sIA_ne (by decide), hm]
    have P2 : ∀ F G, zMk (sI (sJA (sIA h 114 F) 115 G) 113 41 (m - 1)) := fun _ _ => P
    simp (disch := (first | (simp only [gK_sI, gK_sJ, gK_sR, gK_sIA, gK_sJA, gR_sI, gR_sJ, gR_sIA, Nat.reduceLeDiff, Nat.reduceEqDiff, Nat.reduceLT, Int.reduceLE, Int.reduceLT, Int.reduceEq, zWt_i, zWt_l, zWt_r, zWt_n, P, zMkk P] <;> omega) | omega | fail)) only [if_pos, if_neg, wI_id, zLc_lt, zLc_gt, zLc_eq, zLc_le, zLc_ge, Int.reduceEq, Int.reduceLE, Int.reduceLT, Int.reduceNeg, Int.reduceAdd, Int.reduceMul, Int.reduceSub, not_true_eq_false, not_false_eq_true, reduceIte, zPo_v, zPo_n, zPo_t, zKl_i, zKl_r, zKl_n, zKl_l, gK_sI, gK_sJ, gK_sR, gK_sIA, gK_sJA, gR_sI, gR_sJ, gJ_sI, gI_sJ, gI_sR, gJ_sR, gR_sIA, gJ_sIA, Nat.reduceLeDiff, Nat.reduceEqDiff, and_self, and_true, true_and, and_false, false_and, eX6_undo_0, eX6_undo_1, eX6_undo_4, eX6_undo_7, eX6_undo_8, eX6_undo_10, eX6_undo_13, eX6_undo_14, eX6_undo_15, eX6_undo_16, eX6_undo_19, eX6_undo_20, eX6_undo_23, eX6_undo_24, eX6_undo_25, eX6_undo_28, eX6_undo_29, eX6_undo_30, eX6_undo_33, eX6_undo_34, eX6_undo_35, eX6_undo_38, eX6_undo_41, eX6_undo_in, P, zMkk P, gR_sJA, rd, gI_sI_eq, zU_eq, cM_gives (P2 _ _)]
    exact hy
end J6
