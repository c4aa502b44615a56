/-! ===== A DAY OF ALL SHIPS, on both sides ===== -/
set_option maxRecDepth 100000
theorem fDayN_low {a : Int → Int} {k : Int} (hk : k < 146) : ∀ n : Nat, (fDayN a n).1 k = a k
  | 0 => rfl
  | n + 1 => by
    show (fGo (fDayN a n).1 n).1 k = a k
    rw [fGo_low (by omega) hk]
    exact fDayN_low hk n
theorem zIv_dayN {a : Int → Int} (v : zIv a) : ∀ n : Nat, (n : Int) ≤ a 3 → zIv (fDayN a n).1
  | 0, _ => v
  | n + 1, h => by
    have h9 := zIv_dayN v n (by omega)
    exact zIv_go h9 (by omega) (by rw [fDayN_low (by omega)]; omega)
theorem zIv_set5 {a : Int → Int} {x : Int} (v : zIv a) (h0 : 0 ≤ x) (h1 : x ≤ 9999) : zIv (zU a 5 x) := by
  have e : ∀ k, k ≠ 5 → zU a 5 x k = a k := fun k hk => zU_ne hk
  have e5 : zU a 5 x 5 = x := zU_eq
  obtain ⟨v1, v2, v3, v4, v5, v6, v7, v8, v9, v10, v11, v12, v13, v14, v15, v16⟩ := v
  have e0 := e 0 (by omega)
  have e1 := e 1 (by omega)
  have e2 := e 2 (by omega)
  have e3 := e 3 (by omega)
  have e4 := e 4 (by omega)
  refine ⟨?_, by rw [e2]; exact v2, by rw [e3]; exact v3, by rw [e4]; exact v4, by rw [e5]; exact ⟨h0, h1⟩, fun n n0 n1 => ?_, fun n n0 n1 => ?_, fun g g0 g1 => ?_, fun p p0 p1 => ?_, fun p g p0 p1 g0 g1 => ?_, fun p q p0 p1 q0 q1 => ?_, fun s s0 s1 => ?_, fun s s0 s1 => ?_, fun s s0 s1 => ?_, fun s g s0 s1 g0 g1 => ?_, fun s s0 s1 => ?_⟩
  · obtain ⟨w1, w2, w3, w4⟩ := v1
    exact ⟨by rw [e0]; exact w1, by rw [e1]; exact w2, fun g g0 g1 => by rw [e _ (by omega)]; exact w3 g g0 g1, fun g g0 g1 => by rw [e _ (by omega)]; exact w4 g g0 g1⟩
  · rw [e0] at n1
    rw [e _ (by omega), e _ (by omega), e _ (by omega)]
    exact v6 n n0 n1
  · rw [e _ (by omega)]
    exact v7 n n0 n1
  · rw [e1] at g1
    rw [e _ (by omega), e0]
    exact v8 g g0 g1
  · rw [e2] at p1
    rw [e _ (by omega), e0]
    exact v9 p p0 p1
  · rw [e _ (by omega)]
    exact v10 p g p0 p1 g0 g1
  · rw [e _ (by omega), e _ (by omega)]
    exact v11 p q p0 p1 q0 q1
  · rw [e3] at s1
    rw [e2, e _ (by omega), e _ (by omega), e _ (by omega)]
    exact v12 s s0 s1
  · rw [e3] at s1
    rw [e _ (by omega)]
    exact v13 s s0 s1
  · rw [e3] at s1
    rw [e _ (by omega)]
    exact v14 s s0 s1
  · rw [e1, e _ (by omega)]
    exact v15 s g s0 s1 g0 g1
  · rw [e3] at s1
    rw [e _ (by omega), fTons_congr (zEq8_of (a := a) (fun k k0 k1 => e k (by omega)))]
    exact v16 s s0 s1
theorem zIv_day {a : Int → Int} (v : zIv a) (hd : a 5 < 9999) : zIv (fDay a).1 := by
  have h3 := zIships v
  have h5 := zIday v
  have h9 := zIv_dayN v (a 3).toNat (by omega)
  have e5 : (fDayN a (a 3).toNat).1 5 = a 5 := fDayN_low (by omega) _
  exact zIv_set5 h9 (by omega) (by omega)
theorem fDay_low {a : Int → Int} {k : Int} (hk : k < 146) (h5 : k ≠ 5) : (fDay a).1 k = a k := by
  show zU _ 5 _ k = _
  rw [zU_ne h5]
  exact fDayN_low hk _
theorem fDay_5 {a : Int → Int} : (fDay a).1 5 = a 5 + 1 := by
  show zU (fDayN a (a 3).toNat).1 5 ((fDayN a (a 3).toNat).1 5 + 1) 5 = _
  rw [zU_eq, fDayN_low (by omega)]
section DY
variable {d w : Nat} {h : zHp} {Q : zRs → Prop} {a f nm : Int → Int}
theorem kM_dayGoes (P : zMk h) (v : zIv a) (hd : a 5 < 9999) (hQ : ∀ g, Q (zRv (zi (fDay a).2) (zH2 h (fDay a).1 g))) : zCm mX6_dayGoes d [zr (some 113)] (zH2 h a f) Q := by
  have h3 := zIships v
  have h5 := zIday v
  simp (disch := (first | (simp only [gK_sI, gK_sJ, gK_sR, gK_sIA, gK_sJA, gR_sI, gR_sJ, gR_sIA, Nat.reduceLeDiff, Nat.reduceEqDiff, Nat.reduceLT, Int.reduceLE, Int.reduceLT, Int.reduceEq, zWt_i, zWt_l, zWt_r, zWt_n, zH2_gK, zH2_mk, P, zMkk P, zMr0 P, zMk0 P] <;> omega) | omega | fail)) only [if_pos, if_neg, wI_id, zLc_lt, zLc_gt, zLc_eq, zLc_le, zLc_ge, Int.reduceEq, Int.reduceLE, Int.reduceLT, Int.reduceNeg, Int.reduceAdd, Int.reduceMul, Int.reduceSub, not_true_eq_false, not_false_eq_true, reduceIte, zPo_v, zPo_n, zPo_t, zKl_i, zKl_r, zKl_n, zKl_l, gK_sI, gK_sJ, gK_sR, gK_sIA, gK_sJA, gR_sI, gR_sJ, gJ_sI, gI_sJ, gI_sR, gJ_sR, gR_sIA, gJ_sIA, Nat.reduceLeDiff, Nat.reduceEqDiff, eX6_dayGoes_0, eX6_dayGoes_1, eX6_dayGoes_2, eX6_dayGoes_3, eX6_dayGoes_5, eX6_dayGoes_6, eX6_dayGoes_9, eX6_dayGoes_10, eX6_dayGoes_11, eX6_dayGoes_14, eX6_dayGoes_15, eX6_dayGoes_16, eX6_dayGoes_17, eX6_dayGoes_20, eX6_dayGoes_23, eX6_dayGoes_24, eX6_dayGoes_25, eX6_dayGoes_26, eX6_dayGoes_29, eX6_dayGoes_30, eX6_dayGoes_31, eX6_dayGoes_32, eX6_dayGoes_35, eX6_dayGoes_38, eX6_dayGoes_39, eX6_dayGoes_42, eX6_dayGoes_43, eX6_dayGoes_44, eX6_dayGoes_45, eX6_dayGoes_46, eX6_dayGoes_47, eX6_dayGoes_48, eX6_dayGoes_49, eX6_dayGoes_in]
  refine zLoop (a 3) (fun i ls h' => 0 ≤ i ∧ ∃ g, h' = zH2 h (fDayN a i.toNat).1 g ∧ ls = [some (zr (some 113)), some (zi (fDayN a i.toNat).2), some (zi i)]) ?_ ?_ 0 _ _ h3.1 ⟨by omega, f, rfl, rfl⟩
  · rintro i _ _ hi ⟨hi0, g, rfl, rfl⟩ k
    have e3 : (fDayN a i.toNat).1 3 = a 3 := fDayN_low (by omega) _
    have vi := zIv_dayN v i.toNat (by omega)
    have ei : ((i.toNat : Nat) : Int) = i := Int.toNat_of_nonneg hi0
    have es : (i + 1).toNat = i.toNat + 1 := by omega
    rw [eX6_dayGoes_4]
    simp (disch := (first | (simp only [gK_sI, gK_sJ, gK_sR, gK_sIA, gK_sJA, gR_sI, gR_sJ, gR_sIA, Nat.reduceLeDiff, Nat.reduceEqDiff, Nat.reduceLT, Int.reduceLE, Int.reduceLT, Int.reduceEq, zWt_i, zWt_l, zWt_r, zWt_n, zH2_gK, zH2_mk, P, zMkk P, zMr0 P, zMk0 P] <;> omega) | omega | fail)) only [if_pos, if_neg, wI_id, zLc_lt, zLc_gt, zLc_eq, zLc_le, zLc_ge, Int.reduceEq, Int.reduceLE, Int.reduceLT, Int.reduceNeg, Int.reduceAdd, Int.reduceMul, Int.reduceSub, not_true_eq_false, not_false_eq_true, reduceIte, zPo_v, zPo_n, zPo_t, zKl_i, zKl_r, zKl_n, zKl_l, gK_sI, gK_sJ, gK_sR, gK_sIA, gK_sJA, gR_sI, gR_sJ, gJ_sI, gI_sJ, gI_sR, gJ_sR, gR_sIA, gJ_sIA, Nat.reduceLeDiff, Nat.reduceEqDiff, eX6_dayGoes_0, eX6_dayGoes_1, eX6_dayGoes_2, eX6_dayGoes_3, eX6_dayGoes_5, eX6_dayGoes_6, eX6_dayGoes_9, eX6_dayGoes_10, eX6_dayGoes_11, eX6_dayGoes_14, eX6_dayGoes_15, eX6_dayGoes_16, eX6_dayGoes_17, eX6_dayGoes_20, eX6_dayGoes_23, eX6_dayGoes_24, eX6_dayGoes_25, eX6_dayGoes_26, eX6_dayGoes_29, eX6_dayGoes_30, eX6_dayGoes_31, eX6_dayGoes_32, eX6_dayGoes_35, eX6_dayGoes_38, eX6_dayGoes_39, eX6_dayGoes_42, eX6_dayGoes_43, eX6_dayGoes_44, eX6_dayGoes_45, eX6_dayGoes_46, eX6_dayGoes_47, eX6_dayGoes_48, eX6_dayGoes_49, eX6_dayGoes_in, zH2_gK, zH2_gR, zH2_at, zH2_sI, zU_ne, P, zMkk P, zMr0 P, zMk0 P, e3]
    refine kM_passes P vi hi0 (by rw [e3]; exact hi) (fun g2 => ?_)
    have eN : fDayN a (i + 1).toNat = ((fGo (fDayN a i.toNat).1 i).1, zOr (fDayN a i.toNat).2 (if (fGo (fDayN a i.toNat).1 i).2 = 1 then zShl 1 i else 0)) := by
      rw [es]
      show ((fGo (fDayN a i.toNat).1 ((i.toNat : Nat) : Int)).1, _) = _
      rw [ei]
    rw [eN] at k
    rcases fGo_set (a := (fDayN a i.toNat).1) (s := i) with h9 | h9
    · rw [h9] at k
      simp (disch := (first | (simp only [gK_sI, gK_sJ, gK_sR, gK_sIA, gK_sJA, gR_sI, gR_sJ, gR_sIA, Nat.reduceLeDiff, Nat.reduceEqDiff, Nat.reduceLT, Int.reduceLE, Int.reduceLT, Int.reduceEq, zWt_i, zWt_l, zWt_r, zWt_n, zH2_gK, zH2_mk, P, zMkk P, zMr0 P, zMk0 P] <;> omega) | omega | fail)) only [if_pos, if_neg, wI_id, zLc_lt, zLc_gt, zLc_eq, zLc_le, zLc_ge, Int.reduceEq, Int.reduceLE, Int.reduceLT, Int.reduceNeg, Int.reduceAdd, Int.reduceMul, Int.reduceSub, not_true_eq_false, not_false_eq_true, reduceIte, zPo_v, zPo_n, zPo_t, zKl_i, zKl_r, zKl_n, zKl_l, gK_sI, gK_sJ, gK_sR, gK_sIA, gK_sJA, gR_sI, gR_sJ, gJ_sI, gI_sJ, gI_sR, gJ_sR, gR_sIA, gJ_sIA, Nat.reduceLeDiff, Nat.reduceEqDiff, eX6_dayGoes_0, eX6_dayGoes_1, eX6_dayGoes_2, eX6_dayGoes_3, eX6_dayGoes_5, eX6_dayGoes_6, eX6_dayGoes_9, eX6_dayGoes_10, eX6_dayGoes_11, eX6_dayGoes_14, eX6_dayGoes_15, eX6_dayGoes_16, eX6_dayGoes_17, eX6_dayGoes_20, eX6_dayGoes_23, eX6_dayGoes_24, eX6_dayGoes_25, eX6_dayGoes_26, eX6_dayGoes_29, eX6_dayGoes_30, eX6_dayGoes_31, eX6_dayGoes_32, eX6_dayGoes_35, eX6_dayGoes_38, eX6_dayGoes_39, eX6_dayGoes_42, eX6_dayGoes_43, eX6_dayGoes_44, eX6_dayGoes_45, eX6_dayGoes_46, eX6_dayGoes_47, eX6_dayGoes_48, eX6_dayGoes_49, eX6_dayGoes_in, h9]
      exact k _ _ ⟨by omega, g2, rfl, rfl⟩
    · rw [h9] at k
      simp (disch := (first | (simp only [gK_sI, gK_sJ, gK_sR, gK_sIA, gK_sJA, gR_sI, gR_sJ, gR_sIA, Nat.reduceLeDiff, Nat.reduceEqDiff, Nat.reduceLT, Int.reduceLE, Int.reduceLT, Int.reduceEq, zWt_i, zWt_l, zWt_r, zWt_n, zH2_gK, zH2_mk, P, zMkk P, zMr0 P, zMk0 P] <;> omega) | omega | fail)) only [if_pos, if_neg, wI_id, zLc_lt, zLc_gt, zLc_eq, zLc_le, zLc_ge, Int.reduceEq, Int.reduceLE, Int.reduceLT, Int.reduceNeg, Int.reduceAdd, Int.reduceMul, Int.reduceSub, not_true_eq_false, not_false_eq_true, reduceIte, zPo_v, zPo_n, zPo_t, zKl_i, zKl_r, zKl_n, zKl_l, gK_sI, gK_sJ, gK_sR, gK_sIA, gK_sJA, gR_sI, gR_sJ, gJ_sI, gI_sJ, gI_sR, gJ_sR, gR_sIA, gJ_sIA, Nat.reduceLeDiff, Nat.reduceEqDiff, eX6_dayGoes_0, eX6_dayGoes_1, eX6_dayGoes_2, eX6_dayGoes_3, eX6_dayGoes_5, eX6_dayGoes_6, eX6_dayGoes_9, eX6_dayGoes_10, eX6_dayGoes_11, eX6_dayGoes_14, eX6_dayGoes_15, eX6_dayGoes_16, eX6_dayGoes_17, eX6_dayGoes_20, eX6_dayGoes_23, eX6_dayGoes_24, eX6_dayGoes_25, eX6_dayGoes_26, eX6_dayGoes_29, eX6_dayGoes_30, eX6_dayGoes_31, eX6_dayGoes_32, eX6_dayGoes_35, eX6_dayGoes_38, eX6_dayGoes_39, eX6_dayGoes_42, eX6_dayGoes_43, eX6_dayGoes_44, eX6_dayGoes_45, eX6_dayGoes_46, eX6_dayGoes_47, eX6_dayGoes_48, eX6_dayGoes_49, eX6_dayGoes_in, h9]
      exact k _ _ ⟨by omega, g2, rfl, rfl⟩
  · rintro _ _ ⟨-, g, rfl, rfl⟩
    have e3 : (fDayN a (a 3).toNat).1 3 = a 3 := fDayN_low (by omega) _
    have e5 : (fDayN a (a 3).toNat).1 5 = a 5 := fDayN_low (by omega) _
    have hQ := hQ g
    unfold fDay at hQ
    rw [e5] at hQ
    rw [eX6_dayGoes_4]
    simp (disch := (first | (simp only [gK_sI, gK_sJ, gK_sR, gK_sIA, gK_sJA, gR_sI, gR_sJ, gR_sIA, Nat.reduceLeDiff, Nat.reduceEqDiff, Nat.reduceLT, Int.reduceLE, Int.reduceLT, Int.reduceEq, zWt_i, zWt_l, zWt_r, zWt_n, zH2_gK, zH2_mk, P, zMkk P, zMr0 P, zMk0 P] <;> omega) | omega | fail)) only [if_pos, if_neg, wI_id, zLc_lt, zLc_gt, zLc_eq, zLc_le, zLc_ge, Int.reduceEq, Int.reduceLE, Int.reduceLT, Int.reduceNeg, Int.reduceAdd, Int.reduceMul, Int.reduceSub, not_true_eq_false, not_false_eq_true, reduceIte, zPo_v, zPo_n, zPo_t, zKl_i, zKl_r, zKl_n, zKl_l, gK_sI, gK_sJ, gK_sR, gK_sIA, gK_sJA, gR_sI, gR_sJ, gJ_sI, gI_sJ, gI_sR, gJ_sR, gR_sIA, gJ_sIA, Nat.reduceLeDiff, Nat.reduceEqDiff, eX6_dayGoes_0, eX6_dayGoes_1, eX6_dayGoes_2, eX6_dayGoes_3, eX6_dayGoes_5, eX6_dayGoes_6, eX6_dayGoes_9, eX6_dayGoes_10, eX6_dayGoes_11, eX6_dayGoes_14, eX6_dayGoes_15, eX6_dayGoes_16, eX6_dayGoes_17, eX6_dayGoes_20, eX6_dayGoes_23, eX6_dayGoes_24, eX6_dayGoes_25, eX6_dayGoes_26, eX6_dayGoes_29, eX6_dayGoes_30, eX6_dayGoes_31, eX6_dayGoes_32, eX6_dayGoes_35, eX6_dayGoes_38, eX6_dayGoes_39, eX6_dayGoes_42, eX6_dayGoes_43, eX6_dayGoes_44, eX6_dayGoes_45, eX6_dayGoes_46, eX6_dayGoes_47, eX6_dayGoes_48, eX6_dayGoes_49, eX6_dayGoes_in, zH2_gK, zH2_gR, zH2_at, zH2_sI, zU_ne, P, zMkk P, zMr0 P, zMk0 P, e3, e5]
    exact hQ
theorem kX_goes (v : zIv a) (P : zPw h w a nm) (hd : a 5 < 9999) (hQ : ∀ h', zPw h' w (fDay a).1 nm → zSw w h h' → Q (zRv (zi (fDay a).2) h')) : zCm mX5_goes d [zr (some w)] h Q := by
  have hw := P.1
  have h3 := zIships v
  have h5 := zIday v
  have W0 := P.2.1
  simp (disch := (first | (simp only [gK_sI, gK_sJ, gK_sR, gK_sIA, gK_sJA, gR_sI, gR_sJ, gR_sIA, Nat.reduceLeDiff, Nat.reduceEqDiff, Nat.reduceLT, Int.reduceLE, Int.reduceLT, Int.reduceEq, zWt_i, zWt_l, zWt_r, zWt_n, W0, zWkk W0] <;> omega) | omega | fail)) only [if_pos, if_neg, wI_id, zLc_lt, zLc_gt, zLc_eq, zLc_le, zLc_ge, Int.reduceEq, Int.reduceLE, Int.reduceLT, Int.reduceNeg, Int.reduceAdd, Int.reduceMul, Int.reduceSub, not_true_eq_false, not_false_eq_true, reduceIte, zPo_v, zPo_n, zPo_t, zKl_i, zKl_r, zKl_n, zKl_l, gK_sI, gK_sJ, gK_sR, gK_sIA, gK_sJA, gR_sI, gR_sJ, gJ_sI, gI_sJ, gI_sR, gJ_sR, gR_sIA, gJ_sIA, Nat.reduceLeDiff, Nat.reduceEqDiff, eX5_goes_0, eX5_goes_1, eX5_goes_2, eX5_goes_3, eX5_goes_5, eX5_goes_6, eX5_goes_9, eX5_goes_12, eX5_goes_13, eX5_goes_14, eX5_goes_15, eX5_goes_18, eX5_goes_21, eX5_goes_22, eX5_goes_23, eX5_goes_24, eX5_goes_27, eX5_goes_28, eX5_goes_29, eX5_goes_30, eX5_goes_33, eX5_goes_36, eX5_goes_37, eX5_goes_38, eX5_goes_41, eX5_goes_42, eX5_goes_43, eX5_goes_46, eX5_goes_47, eX5_goes_in]
  refine zLoop (a 3) (fun i ls h' => 0 ≤ i ∧ zPw h' w (fDayN a i.toNat).1 nm ∧ zSw w h h' ∧ ls = [some (zr (some w)), some (zi (fDayN a i.toNat).2), some (zi i)]) ?_ ?_ 0 _ _ h3.1 ⟨by omega, P, zSw_rf, rfl⟩
  · rintro i _ h1 hi ⟨hi0, P1, S1, rfl⟩ k
    have e3 : (fDayN a i.toNat).1 3 = a 3 := fDayN_low (by omega) _
    have vi := zIv_dayN v i.toNat (by omega)
    have ei : ((i.toNat : Nat) : Int) = i := Int.toNat_of_nonneg hi0
    have es : (i + 1).toNat = i.toNat + 1 := by omega
    have W1 := P1.2.1
    have p3 := P1.2.2.1.2.2.2.1
    rw [e3] at p3
    rw [eX5_goes_4]
    simp (disch := (first | (simp only [gK_sI, gK_sJ, gK_sR, gK_sIA, gK_sJA, gR_sI, gR_sJ, gR_sIA, Nat.reduceLeDiff, Nat.reduceEqDiff, Nat.reduceLT, Int.reduceLE, Int.reduceLT, Int.reduceEq, zWt_i, zWt_l, zWt_r, zWt_n, W1, zWkk W1] <;> omega) | omega | fail)) only [if_pos, if_neg, wI_id, zLc_lt, zLc_gt, zLc_eq, zLc_le, zLc_ge, Int.reduceEq, Int.reduceLE, Int.reduceLT, Int.reduceNeg, Int.reduceAdd, Int.reduceMul, Int.reduceSub, not_true_eq_false, not_false_eq_true, reduceIte, zPo_v, zPo_n, zPo_t, zKl_i, zKl_r, zKl_n, zKl_l, gK_sI, gK_sJ, gK_sR, gK_sIA, gK_sJA, gR_sI, gR_sJ, gJ_sI, gI_sJ, gI_sR, gJ_sR, gR_sIA, gJ_sIA, Nat.reduceLeDiff, Nat.reduceEqDiff, eX5_goes_0, eX5_goes_1, eX5_goes_2, eX5_goes_3, eX5_goes_5, eX5_goes_6, eX5_goes_9, eX5_goes_12, eX5_goes_13, eX5_goes_14, eX5_goes_15, eX5_goes_18, eX5_goes_21, eX5_goes_22, eX5_goes_23, eX5_goes_24, eX5_goes_27, eX5_goes_28, eX5_goes_29, eX5_goes_30, eX5_goes_33, eX5_goes_36, eX5_goes_37, eX5_goes_38, eX5_goes_41, eX5_goes_42, eX5_goes_43, eX5_goes_46, eX5_goes_47, eX5_goes_in, p3]
    refine kX_go vi P1 hi0 (by rw [e3]; exact hi) (fun h2 P2 S2 => ?_)
    have eN : fDayN a (i + 1).toNat = ((fGo (fDayN a i.toNat).1 i).1, zOr (fDayN a i.toNat).2 (if (fGo (fDayN a i.toNat).1 i).2 = 1 then zShl 1 i else 0)) := by
      rw [es]
      show ((fGo (fDayN a i.toNat).1 ((i.toNat : Nat) : Int)).1, _) = _
      rw [ei]
    rw [eN] at k
    rcases fGo_set (a := (fDayN a i.toNat).1) (s := i) with h9 | h9
    · rw [h9] at k
      simp (disch := (first | (simp only [gK_sI, gK_sJ, gK_sR, gK_sIA, gK_sJA, gR_sI, gR_sJ, gR_sIA, Nat.reduceLeDiff, Nat.reduceEqDiff, Nat.reduceLT, Int.reduceLE, Int.reduceLT, Int.reduceEq, zWt_i, zWt_l, zWt_r, zWt_n] <;> omega) | omega | fail)) only [if_pos, if_neg, wI_id, zLc_lt, zLc_gt, zLc_eq, zLc_le, zLc_ge, Int.reduceEq, Int.reduceLE, Int.reduceLT, Int.reduceNeg, Int.reduceAdd, Int.reduceMul, Int.reduceSub, not_true_eq_false, not_false_eq_true, reduceIte, zPo_v, zPo_n, zPo_t, zKl_i, zKl_r, zKl_n, zKl_l, gK_sI, gK_sJ, gK_sR, gK_sIA, gK_sJA, gR_sI, gR_sJ, gJ_sI, gI_sJ, gI_sR, gJ_sR, gR_sIA, gJ_sIA, Nat.reduceLeDiff, Nat.reduceEqDiff, eX5_goes_0, eX5_goes_1, eX5_goes_2, eX5_goes_3, eX5_goes_5, eX5_goes_6, eX5_goes_9, eX5_goes_12, eX5_goes_13, eX5_goes_14, eX5_goes_15, eX5_goes_18, eX5_goes_21, eX5_goes_22, eX5_goes_23, eX5_goes_24, eX5_goes_27, eX5_goes_28, eX5_goes_29, eX5_goes_30, eX5_goes_33, eX5_goes_36, eX5_goes_37, eX5_goes_38, eX5_goes_41, eX5_goes_42, eX5_goes_43, eX5_goes_46, eX5_goes_47, eX5_goes_in, h9]
      exact k _ _ ⟨by omega, P2, zSw_tr S1 S2, rfl⟩
    · rw [h9] at k
      simp (disch := (first | (simp only [gK_sI, gK_sJ, gK_sR, gK_sIA, gK_sJA, gR_sI, gR_sJ, gR_sIA, Nat.reduceLeDiff, Nat.reduceEqDiff, Nat.reduceLT, Int.reduceLE, Int.reduceLT, Int.reduceEq, zWt_i, zWt_l, zWt_r, zWt_n] <;> omega) | omega | fail)) only [if_pos, if_neg, wI_id, zLc_lt, zLc_gt, zLc_eq, zLc_le, zLc_ge, Int.reduceEq, Int.reduceLE, Int.reduceLT, Int.reduceNeg, Int.reduceAdd, Int.reduceMul, Int.reduceSub, not_true_eq_false, not_false_eq_true, reduceIte, zPo_v, zPo_n, zPo_t, zKl_i, zKl_r, zKl_n, zKl_l, gK_sI, gK_sJ, gK_sR, gK_sIA, gK_sJA, gR_sI, gR_sJ, gJ_sI, gI_sJ, gI_sR, gJ_sR, gR_sIA, gJ_sIA, Nat.reduceLeDiff, Nat.reduceEqDiff, eX5_goes_0, eX5_goes_1, eX5_goes_2, eX5_goes_3, eX5_goes_5, eX5_goes_6, eX5_goes_9, eX5_goes_12, eX5_goes_13, eX5_goes_14, eX5_goes_15, eX5_goes_18, eX5_goes_21, eX5_goes_22, eX5_goes_23, eX5_goes_24, eX5_goes_27, eX5_goes_28, eX5_goes_29, eX5_goes_30, eX5_goes_33, eX5_goes_36, eX5_goes_37, eX5_goes_38, eX5_goes_41, eX5_goes_42, eX5_goes_43, eX5_goes_46, eX5_goes_47, eX5_goes_in, h9]
      exact k _ _ ⟨by omega, P2, zSw_tr S1 S2, rfl⟩
  · rintro _ h1 ⟨-, P1, S1, rfl⟩
    have e3 : (fDayN a (a 3).toNat).1 3 = a 3 := fDayN_low (by omega) _
    have e5 : (fDayN a (a 3).toNat).1 5 = a 5 := fDayN_low (by omega) _
    have W1 := P1.2.1
    have p3 := P1.2.2.1.2.2.2.1
    have p5 := P1.2.2.1.2.2.2.2.2.1
    rw [e3] at p3
    rw [e5] at p5
    have v1 := zIv_dayN v (a 3).toNat (by omega)
    have P2 := zPw_day (x := a 5 + 1) v1 P1
    unfold fDay at hQ
    rw [e5] at hQ
    rw [eX5_goes_4]
    simp (disch := (first | (simp only [gK_sI, gK_sJ, gK_sR, gK_sIA, gK_sJA, gR_sI, gR_sJ, gR_sIA, Nat.reduceLeDiff, Nat.reduceEqDiff, Nat.reduceLT, Int.reduceLE, Int.reduceLT, Int.reduceEq, zWt_i, zWt_l, zWt_r, zWt_n, W1, zWkk W1] <;> omega) | omega | fail)) only [if_pos, if_neg, wI_id, zLc_lt, zLc_gt, zLc_eq, zLc_le, zLc_ge, Int.reduceEq, Int.reduceLE, Int.reduceLT, Int.reduceNeg, Int.reduceAdd, Int.reduceMul, Int.reduceSub, not_true_eq_false, not_false_eq_true, reduceIte, zPo_v, zPo_n, zPo_t, zKl_i, zKl_r, zKl_n, zKl_l, gK_sI, gK_sJ, gK_sR, gK_sIA, gK_sJA, gR_sI, gR_sJ, gJ_sI, gI_sJ, gI_sR, gJ_sR, gR_sIA, gJ_sIA, Nat.reduceLeDiff, Nat.reduceEqDiff, eX5_goes_0, eX5_goes_1, eX5_goes_2, eX5_goes_3, eX5_goes_5, eX5_goes_6, eX5_goes_9, eX5_goes_12, eX5_goes_13, eX5_goes_14, eX5_goes_15, eX5_goes_18, eX5_goes_21, eX5_goes_22, eX5_goes_23, eX5_goes_24, eX5_goes_27, eX5_goes_28, eX5_goes_29, eX5_goes_30, eX5_goes_33, eX5_goes_36, eX5_goes_37, eX5_goes_38, eX5_goes_41, eX5_goes_42, eX5_goes_43, eX5_goes_46, eX5_goes_47, eX5_goes_in, p3, p5]
    exact hQ _ P2 (zSw_sI S1 (by omega) (by omega))
end DY
