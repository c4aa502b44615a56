/-! ===== OPERATIONS, 7: days, wars, what passes over ===== -/
set_option maxRecDepth 100000
def fDays (a : Int → Int) : Nat → (Int → Int) × Int
  | 0 => (a, 0)
  | n + 1 => ((fDay (fDays a n).1).1, zOr (fDays a n).2 (fDay (fDays a n).1).2)
theorem fDays_next {a : Int → Int} {i : Int} (h0 : 0 ≤ i) : fDays a (i + 1).toNat = ((fDay (fDays a i.toNat).1).1, zOr (fDays a i.toNat).2 (fDay (fDays a i.toNat).1).2) := by
  have e : (i + 1).toNat = i.toNat + 1 := by omega
  rw [e]
  rfl
theorem fDays_5 {a : Int → Int} : ∀ n : Nat, (fDays a n).1 5 = a 5 + n
  | 0 => by show a 5 = a 5 + 0; omega
  | n + 1 => by
    show (fDay (fDays a n).1).1 5 = _
    rw [fDay_5, fDays_5 n]
    omega
theorem zIv_days {a : Int → Int} (v : zIv a) : ∀ n : Nat, a 5 + n ≤ 9999 → zIv (fDays a n).1
  | 0, _ => v
  | n + 1, hn => zIv_day (zIv_days v n (by omega)) (by rw [fDays_5]; omega)
def oDay (a : Int → Int) (n : Int) : (Int → Int) × Int × Int := if 1 ≤ n ∧ n ≤ 99 then (if a 5 + n > 9999 then (a, -1, 4) else ((fDays a n.toNat).1, (fDays a n.toNat).2, 0)) else (a, -1, 1)
def fWar (a : Int → Int) (x y : Int) : Int → Int := zU (zU a (11 + 4 * x) (zXor (a (11 + 4 * x)) (zShl 1 y))) (11 + 4 * y) (zXor (a (11 + 4 * y)) (zShl 1 x))
def fAtWar (a : Int → Int) (x y : Int) : Int := if zAnd (zShr (a (11 + 4 * x)) y) 1 = 1 then 1 else 0
def oWar (a : Int → Int) (x y z : Int) : (Int → Int) × Int × Int := if (0 ≤ x ∧ x < a 0) ∧ (0 ≤ y ∧ y < a 0) ∧ x ≠ y then (if fAtWar a x y = z then (a, 0, 7) else (fWar a x y, 1, 0)) else (a, 0, 1)
def fPassOk (a : Int → Int) (s o g n : Int) : Prop := a (146 + 15 * s) ≠ -1 ∧ a (146 + 15 * s) = a (146 + 15 * o) ∧ n ≤ a (153 + 15 * s + g) ∧ n ≤ a (149 + 15 * o) - fTons (fLd a o)
def zDpass {a : Int → Int} {s o g n : Int} : Decidable (fPassOk a s o g n) := inferInstanceAs (Decidable (_ ∧ _ ∧ _ ∧ _))
def fPass (a : Int → Int) (s o g n : Int) : Int → Int := zU (zU a (153 + 15 * s + g) (a (153 + 15 * s + g) - n)) (153 + 15 * o + g) (a (153 + 15 * o + g) + n)
def oPass (a : Int → Int) (s o g n : Int) : (Int → Int) × Int × Int := if (0 ≤ s ∧ s < a 3) ∧ (0 ≤ o ∧ o < a 3) ∧ s ≠ o ∧ (0 ≤ g ∧ g < a 1) ∧ (1 ≤ n ∧ n ≤ 60) then @ite ((Int → Int) × Int × Int) (fPassOk a s o g n) zDpass (fPass a s o g n, 1, 0) (a, 0, 7) else (a, 0, 1)
theorem fXor_b' : ∀ s : Nat, s < 64 → ∀ i : Nat, i < 6 → 0 ≤ zXor s (zShl 1 i) ∧ zXor s (zShl 1 i) < 64 := by decide +kernel
theorem fXor_b {s i : Int} (hs : 0 ≤ s ∧ s < 64) (hi : 0 ≤ i) (h6 : i < 6) : 0 ≤ zXor s (zShl 1 i) ∧ zXor s (zShl 1 i) < 64 := by
  have h9 := fXor_b' s.toNat (by omega) i.toNat (by omega)
  rw [Int.toNat_of_nonneg hs.1, Int.toNat_of_nonneg hi] at h9
  exact h9
section O7
variable {d : Nat} {h : zHp} {Q : zRs → Prop} {a f nm : Int → Int}
theorem oM_day {n : Int} (P : zMk h) (v : zIv a) (hQ : ∀ k9, Q (zRv (zi (oDay a n).2.1) (zH2 (sI h 113 2 (oDay a n).2.2) (oDay a n).1 k9))) : zCm mX6_day d [zr (some 113), zi n] (zH2 h a f) Q := by
  have P2 : ∀ a f, zMk (zH2 h a f) := fun _ _ => P
  have P3 : ∀ a f x, zMk (zH2 (sI h 113 2 x) a f) := fun _ _ _ => P
  have b0 := (zIgd v).1
  have b1 := (zIgd v).2.1
  have b2 := zIports v
  have b3 := zIships v
  have b4 := zIrule v
  have b5 := zIday v
  by_cases hc : 1 ≤ n ∧ n ≤ 99
  · by_cases c : a 5 + n > 9999
    · have e : oDay a n = (a, -1, 4) := by
        unfold oDay
        rw [if_pos hc, if_pos c]
      simp (disch := (first | (simp only [gK_sI, gK_sJ, gK_sR, gK_sIA, gK_sJA, gR_sI, gR_sJ, gR_sIA, Nat.reduceLeDiff, Nat.reduceEqDiff, Nat.reduceLT, Int.reduceLE, Int.reduceLT, Int.reduceEq, zWt_i, zWt_l, zWt_r, zWt_n, zH2_gK, zH2_mk, P, zMkk P, zMr0 P, zMk0 P] <;> omega) | omega | fail)) only [if_pos, if_neg, wI_id, zLc_lt, zLc_gt, zLc_eq, zLc_le, zLc_ge, Int.reduceEq, Int.reduceLE, Int.reduceLT, Int.reduceNeg, Int.reduceAdd, Int.reduceMul, Int.reduceSub, not_true_eq_false, not_false_eq_true, reduceIte, zPo_v, zPo_n, zPo_t, zKl_i, zKl_r, zKl_n, zKl_l, gK_sI, gK_sJ, gK_sR, gK_sIA, gK_sJA, gR_sI, gR_sJ, gJ_sI, gI_sJ, gI_sR, gJ_sR, gR_sIA, gJ_sIA, Nat.reduceLeDiff, Nat.reduceEqDiff, and_self, and_true, true_and, and_false, false_and, eX6_day_0, eX6_day_1, eX6_day_2, eX6_day_3, eX6_day_6, eX6_day_9, eX6_day_12, eX6_day_13, eX6_day_14, eX6_day_17, eX6_day_18, eX6_day_19, eX6_day_22, eX6_day_23, eX6_day_24, eX6_day_25, eX6_day_26, eX6_day_29, eX6_day_32, eX6_day_33, eX6_day_34, eX6_day_37, eX6_day_38, eX6_day_39, eX6_day_40, eX6_day_41, eX6_day_43, eX6_day_44, eX6_day_47, eX6_day_48, eX6_day_49, eX6_day_52, eX6_day_53, eX6_day_54, eX6_day_57, eX6_day_60, eX6_day_61, eX6_day_62, eX6_day_65, eX6_day_in, zH2_gK, zH2_gR, zH2_at, zH2_sI, zU_ne, P, zMkk P, zMr0 P, zMk0 P, cM_isFrom, cM_refuse (P2 _ _), zH2_sIne]
      exact zGm hQ e _
    · have e : oDay a n = ((fDays a n.toNat).1, (fDays a n.toNat).2, 0) := by
        unfold oDay
        rw [if_pos hc, if_neg c]
      simp (disch := (first | (simp only [gK_sI, gK_sJ, gK_sR, gK_sIA, gK_sJA, gR_sI, gR_sJ, gR_sIA, Nat.reduceLeDiff, Nat.reduceEqDiff, Nat.reduceLT, Int.reduceLE, Int.reduceLT, Int.reduceEq, zWt_i, zWt_l, zWt_r, zWt_n, zH2_gK, zH2_mk, P, zMkk P, zMr0 P, zMk0 P] <;> omega) | omega | fail)) only [if_pos, if_neg, wI_id, zLc_lt, zLc_gt, zLc_eq, zLc_le, zLc_ge, Int.reduceEq, Int.reduceLE, Int.reduceLT, Int.reduceNeg, Int.reduceAdd, Int.reduceMul, Int.reduceSub, not_true_eq_false, not_false_eq_true, reduceIte, zPo_v, zPo_n, zPo_t, zKl_i, zKl_r, zKl_n, zKl_l, gK_sI, gK_sJ, gK_sR, gK_sIA, gK_sJA, gR_sI, gR_sJ, gJ_sI, gI_sJ, gI_sR, gJ_sR, gR_sIA, gJ_sIA, Nat.reduceLeDiff, Nat.reduceEqDiff, and_self, and_true, true_and, and_false, false_and, eX6_day_0, eX6_day_1, eX6_day_2, eX6_day_3, eX6_day_6, eX6_day_9, eX6_day_12, eX6_day_13, eX6_day_14, eX6_day_17, eX6_day_18, eX6_day_19, eX6_day_22, eX6_day_23, eX6_day_24, eX6_day_25, eX6_day_26, eX6_day_29, eX6_day_32, eX6_day_33, eX6_day_34, eX6_day_37, eX6_day_38, eX6_day_39, eX6_day_40, eX6_day_41, eX6_day_43, eX6_day_44, eX6_day_47, eX6_day_48, eX6_day_49, eX6_day_52, eX6_day_53, eX6_day_54, eX6_day_57, eX6_day_60, eX6_day_61, eX6_day_62, eX6_day_65, eX6_day_in, zH2_gK, zH2_gR, zH2_at, zH2_sI, zU_ne, P, zMkk P, zMr0 P, zMk0 P, cM_isFrom]
      refine zLoop n (fun i ls h' => 0 ≤ i ∧ ∃ g, h' = zH2 h (fDays a i.toNat).1 g ∧ ls = [some (zr (some 113)), some (zi n), some (zi (fDays a i.toNat).2), some (zi i)]) ?_ ?_ 0 _ _ (by omega) ⟨by omega, f, rfl, rfl⟩
      · rintro i _ _ hi ⟨hi0, g, rfl, rfl⟩ k
        have vi := zIv_days v i.toNat (by omega)
        rw [fDays_next hi0] at k
        rw [eX6_day_42]
        simp (disch := (first | (simp only [gK_sI, gK_sJ, gK_sR, gK_sIA, gK_sJA, gR_sI, gR_sJ, gR_sIA, Nat.reduceLeDiff, Nat.reduceEqDiff, Nat.reduceLT, Int.reduceLE, Int.reduceLT, Int.reduceEq, zWt_i, zWt_l, zWt_r, zWt_n, zH2_gK, zH2_mk, P, zMkk P, zMr0 P, zMk0 P] <;> omega) | omega | fail)) only [if_pos, if_neg, wI_id, zLc_lt, zLc_gt, zLc_eq, zLc_le, zLc_ge, Int.reduceEq, Int.reduceLE, Int.reduceLT, Int.reduceNeg, Int.reduceAdd, Int.reduceMul, Int.reduceSub, not_true_eq_false, not_false_eq_true, reduceIte, zPo_v, zPo_n, zPo_t, zKl_i, zKl_r, zKl_n, zKl_l, gK_sI, gK_sJ, gK_sR, gK_sIA, gK_sJA, gR_sI, gR_sJ, gJ_sI, gI_sJ, gI_sR, gJ_sR, gR_sIA, gJ_sIA, Nat.reduceLeDiff, Nat.reduceEqDiff, and_self, and_true, true_and, and_false, false_and, eX6_day_0, eX6_day_1, eX6_day_2, eX6_day_3, eX6_day_6, eX6_day_9, eX6_day_12, eX6_day_13, eX6_day_14, eX6_day_17, eX6_day_18, eX6_day_19, eX6_day_22, eX6_day_23, eX6_day_24, eX6_day_25, eX6_day_26, eX6_day_29, eX6_day_32, eX6_day_33, eX6_day_34, eX6_day_37, eX6_day_38, eX6_day_39, eX6_day_40, eX6_day_41, eX6_day_43, eX6_day_44, eX6_day_47, eX6_day_48, eX6_day_49, eX6_day_52, eX6_day_53, eX6_day_54, eX6_day_57, eX6_day_60, eX6_day_61, eX6_day_62, eX6_day_65, eX6_day_in, zH2_gK, zH2_gR, zH2_at, zH2_sI, zU_ne, P, zMkk P, zMr0 P, zMk0 P]
        refine kM_dayGoes P vi (by rw [fDays_5]; omega) (fun g2 => ?_)
        simp (disch := (first | (simp only [gK_sI, gK_sJ, gK_sR, gK_sIA, gK_sJA, gR_sI, gR_sJ, gR_sIA, Nat.reduceLeDiff, Nat.reduceEqDiff, Nat.reduceLT, Int.reduceLE, Int.reduceLT, Int.reduceEq, zWt_i, zWt_l, zWt_r, zWt_n, zH2_gK, zH2_mk, P, zMkk P, zMr0 P, zMk0 P] <;> omega) | omega | fail)) only [if_pos, if_neg, wI_id, zLc_lt, zLc_gt, zLc_eq, zLc_le, zLc_ge, Int.reduceEq, Int.reduceLE, Int.reduceLT, Int.reduceNeg, Int.reduceAdd, Int.reduceMul, Int.reduceSub, not_true_eq_false, not_false_eq_true, reduceIte, zPo_v, zPo_n, zPo_t, zKl_i, zKl_r, zKl_n, zKl_l, gK_sI, gK_sJ, gK_sR, gK_sIA, gK_sJA, gR_sI, gR_sJ, gJ_sI, gI_sJ, gI_sR, gJ_sR, gR_sIA, gJ_sIA, Nat.reduceLeDiff, Nat.reduceEqDiff, and_self, and_true, true_and, and_false, false_and, eX6_day_0, eX6_day_1, eX6_day_2, eX6_day_3, eX6_day_6, eX6_day_9, eX6_day_12, eX6_day_13, eX6_day_14, eX6_day_17, eX6_day_18, eX6_day_19, eX6_day_22, eX6_day_23, eX6_day_24, eX6_day_25, eX6_day_26, eX6_day_29, eX6_day_32, eX6_day_33, eX6_day_34, eX6_day_37, eX6_day_38, eX6_day_39, eX6_day_40, eX6_day_41, eX6_day_43, eX6_day_44, eX6_day_47, eX6_day_48, eX6_day_49, eX6_day_52, eX6_day_53, eX6_day_54, eX6_day_57, eX6_day_60, eX6_day_61, eX6_day_62, eX6_day_65, eX6_day_in, zH2_gK, zH2_gR, zH2_at, zH2_sI, zU_ne, P, zMkk P, zMr0 P, zMk0 P]
        exact k _ _ ⟨by omega, g2, rfl, rfl⟩
      · rintro _ _ ⟨-, g, rfl, rfl⟩
        rw [eX6_day_42]
        simp (disch := (first | (simp only [gK_sI, gK_sJ, gK_sR, gK_sIA, gK_sJA, gR_sI, gR_sJ, gR_sIA, Nat.reduceLeDiff, Nat.reduceEqDiff, Nat.reduceLT, Int.reduceLE, Int.reduceLT, Int.reduceEq, zWt_i, zWt_l, zWt_r, zWt_n, zH2_gK, zH2_mk, P, zMkk P, zMr0 P, zMk0 P] <;> omega) | omega | fail)) only [if_pos, if_neg, wI_id, zLc_lt, zLc_gt, zLc_eq, zLc_le, zLc_ge, Int.reduceEq, Int.reduceLE, Int.reduceLT, Int.reduceNeg, Int.reduceAdd, Int.reduceMul, Int.reduceSub, not_true_eq_false, not_false_eq_true, reduceIte, zPo_v, zPo_n, zPo_t, zKl_i, zKl_r, zKl_n, zKl_l, gK_sI, gK_sJ, gK_sR, gK_sIA, gK_sJA, gR_sI, gR_sJ, gJ_sI, gI_sJ, gI_sR, gJ_sR, gR_sIA, gJ_sIA, Nat.reduceLeDiff, Nat.reduceEqDiff, and_self, and_true, true_and, and_false, false_and, eX6_day_0, eX6_day_1, eX6_day_2, eX6_day_3, eX6_day_6, eX6_day_9, eX6_day_12, eX6_day_13, eX6_day_14, eX6_day_17, eX6_day_18, eX6_day_19, eX6_day_22, eX6_day_23, eX6_day_24, eX6_day_25, eX6_day_26, eX6_day_29, eX6_day_32, eX6_day_33, eX6_day_34, eX6_day_37, eX6_day_38, eX6_day_39, eX6_day_40, eX6_day_41, eX6_day_43, eX6_day_44, eX6_day_47, eX6_day_48, eX6_day_49, eX6_day_52, eX6_day_53, eX6_day_54, eX6_day_57, eX6_day_60, eX6_day_61, eX6_day_62, eX6_day_65, eX6_day_in, zH2_gK, zH2_gR, zH2_at, zH2_sI, zU_ne, P, zMkk P, zMr0 P, zMk0 P, cM_gives (P2 _ _), zH2_sIne]
        exact zGm hQ e g
  · have e : oDay a n = (a, -1, 1) := if_neg hc
    have h9 := zGm hQ e f
    simp (disch := (first | (simp only [gK_sI, gK_sJ, gK_sR, gK_sIA, gK_sJA, gR_sI, gR_sJ, gR_sIA, Nat.reduceLeDiff, Nat.reduceEqDiff, Nat.reduceLT, Int.reduceLE, Int.reduceLT, Int.reduceEq, zWt_i, zWt_l, zWt_r, zWt_n, zH2_gK, zH2_mk, P, zMkk P, zMr0 P, zMk0 P] <;> omega) | omega | fail)) only [wI_id, zLc_lt, zLc_gt, zLc_eq, zLc_le, zLc_ge, Int.reduceEq, Int.reduceLE, Int.reduceLT, Int.reduceNeg, Int.reduceAdd, Int.reduceMul, Int.reduceSub, not_true_eq_false, not_false_eq_true, reduceIte, zPo_v, zPo_n, zPo_t, zKl_i, zKl_r, zKl_n, zKl_l, gK_sI, gK_sJ, gK_sR, gK_sIA, gK_sJA, gR_sI, gR_sJ, gJ_sI, gI_sJ, gI_sR, gJ_sR, gR_sIA, gJ_sIA, Nat.reduceLeDiff, Nat.reduceEqDiff, and_self, and_true, true_and, and_false, false_and, eX6_day_0, eX6_day_1, eX6_day_2, eX6_day_3, eX6_day_6, eX6_day_9, eX6_day_12, eX6_day_13, eX6_day_14, eX6_day_17, eX6_day_19, eX6_day_22, eX6_day_23, eX6_day_24, eX6_day_25, eX6_day_26, eX6_day_29, eX6_day_32, eX6_day_33, eX6_day_34, eX6_day_37, eX6_day_38, eX6_day_39, eX6_day_40, eX6_day_41, eX6_day_43, eX6_day_44, eX6_day_47, eX6_day_48, eX6_day_49, eX6_day_52, eX6_day_53, eX6_day_54, eX6_day_57, eX6_day_60, eX6_day_61, eX6_day_62, eX6_day_65, eX6_day_in, zH2_gK, zH2_gR, zH2_at, zH2_sI, zU_ne, P, zMkk P, zMr0 P, zMk0 P, cM_isFrom, cM_refuse (P2 _ _), zH2_sIne]
    (repeat' split) <;> first | exact h9 | (exfalso; omega)
theorem oX_day {n : Int} (K : zXk h) (v : zIv a) (P : zPw h 75 a nm) (hQ : ∀ h', zPw h' 75 (oDay a n).1 nm → zSx h h' → gI h' 65 7 = (oDay a n).2.2 → Q (zRv (zi (oDay a n).2.1) h')) : zCm mX0_day d [zr (some 65), zi n] h Q := by
  have W := P.2.1
  have e2 : ∀ x, zXk (sI h 65 7 x) := fun _ => K
  have P9 : ∀ x, zPw (sI h 65 7 x) 75 a nm := fun x => zPw_st v P K
  have S9 : ∀ x, zSx h (sI h 65 7 x) := fun x => zSx_st zSx_rf
  have b0 := (zIgd v).1
  have b1 := (zIgd v).2.1
  have b2 := zIports v
  have b3 := zIships v
  have b4 := zIrule v
  have b5 := zIday v
  have p5 := P.2.2.1.2.2.2.2.2.1
  by_cases hc : 1 ≤ n ∧ n ≤ 99
  · by_cases c : a 5 + n > 9999
    · have e : oDay a n = (a, -1, 4) := by
        unfold oDay
        rw [if_pos hc, if_pos c]
      simp (disch := (first | (simp only [gK_sI, gK_sJ, gK_sR, gK_sIA, gK_sJA, gR_sI, gR_sJ, gR_sIA, Nat.reduceLeDiff, Nat.reduceEqDiff, Nat.reduceLT, Int.reduceLE, Int.reduceLT, Int.reduceEq, zWt_i, zWt_l, zWt_r, zWt_n, K, zXkk K, zXh0 K, W, zWkk W, e2] <;> omega) | omega | fail)) only [if_pos, if_neg, wI_id, zLc_lt, zLc_gt, zLc_eq, zLc_le, zLc_ge, Int.reduceEq, Int.reduceLE, Int.reduceLT, Int.reduceNeg, Int.reduceAdd, Int.reduceMul, Int.reduceSub, not_true_eq_false, not_false_eq_true, reduceIte, zPo_v, zPo_n, zPo_t, zKl_i, zKl_r, zKl_n, zKl_l, gK_sI, gK_sJ, gK_sR, gK_sIA, gK_sJA, gR_sI, gR_sJ, gJ_sI, gI_sJ, gI_sR, gJ_sR, gR_sIA, gJ_sIA, Nat.reduceLeDiff, Nat.reduceEqDiff, and_self, and_true, true_and, and_false, false_and, eX0_day_0, eX0_day_1, eX0_day_2, eX0_day_3, eX0_day_4, eX0_day_7, eX0_day_10, eX0_day_13, eX0_day_14, eX0_day_17, eX0_day_18, eX0_day_21, eX0_day_24, eX0_day_25, eX0_day_26, eX0_day_29, eX0_day_32, eX0_day_33, eX0_day_36, eX0_day_37, eX0_day_40, eX0_day_41, eX0_day_44, eX0_day_47, eX0_day_48, eX0_day_49, eX0_day_50, eX0_day_51, eX0_day_52, eX0_day_54, eX0_day_55, eX0_day_58, eX0_day_59, eX0_day_60, eX0_day_63, eX0_day_66, eX0_day_67, eX0_day_68, eX0_day_71, eX0_day_74, eX0_day_75, tX0_day, eX0_day_in, K, zXkk K, zXh0 K, W, zWkk W, kX0_isIn, kX0_at, p5, gI_sI_ne, gI_sI_eq, zU_eq]
      exact zGxs hQ K P zSx_rf e
    · have e : oDay a n = ((fDays a n.toNat).1, (fDays a n.toNat).2, 0) := by
        unfold oDay
        rw [if_pos hc, if_neg c]
      simp (disch := (first | (simp only [gK_sI, gK_sJ, gK_sR, gK_sIA, gK_sJA, gR_sI, gR_sJ, gR_sIA, Nat.reduceLeDiff, Nat.reduceEqDiff, Nat.reduceLT, Int.reduceLE, Int.reduceLT, Int.reduceEq, zWt_i, zWt_l, zWt_r, zWt_n, K, zXkk K, zXh0 K, W, zWkk W, e2] <;> omega) | omega | fail)) only [if_pos, if_neg, wI_id, zLc_lt, zLc_gt, zLc_eq, zLc_le, zLc_ge, Int.reduceEq, Int.reduceLE, Int.reduceLT, Int.reduceNeg, Int.reduceAdd, Int.reduceMul, Int.reduceSub, not_true_eq_false, not_false_eq_true, reduceIte, zPo_v, zPo_n, zPo_t, zKl_i, zKl_r, zKl_n, zKl_l, gK_sI, gK_sJ, gK_sR, gK_sIA, gK_sJA, gR_sI, gR_sJ, gJ_sI, gI_sJ, gI_sR, gJ_sR, gR_sIA, gJ_sIA, Nat.reduceLeDiff, Nat.reduceEqDiff, and_self, and_true, true_and, and_false, false_and, eX0_day_0, eX0_day_1, eX0_day_2, eX0_day_3, eX0_day_4, eX0_day_7, eX0_day_10, eX0_day_13, eX0_day_14, eX0_day_17, eX0_day_18, eX0_day_21, eX0_day_24, eX0_day_25, eX0_day_26, eX0_day_29, eX0_day_32, eX0_day_33, eX0_day_36, eX0_day_37, eX0_day_40, eX0_day_41, eX0_day_44, eX0_day_47, eX0_day_48, eX0_day_49, eX0_day_50, eX0_day_51, eX0_day_52, eX0_day_54, eX0_day_55, eX0_day_58, eX0_day_59, eX0_day_60, eX0_day_63, eX0_day_66, eX0_day_67, eX0_day_68, eX0_day_71, eX0_day_74, eX0_day_75, tX0_day, eX0_day_in, K, zXkk K, zXh0 K, W, zWkk W, kX0_isIn, kX0_at, p5, gI_sI_ne, gI_sI_eq, zU_eq]
      refine zLoop n (fun i ls h' => 0 ≤ i ∧ zPw h' 75 (fDays a i.toNat).1 nm ∧ zXk h' ∧ zSx h h' ∧ gI h' 65 7 = 0 ∧ ls = [some (zr (some 65)), some (zi n), some (zi (fDays a i.toNat).2), some (zi i)]) ?_ ?_ 0 _ _ (by omega) ⟨by omega, P9 0, K, S9 0, by rw [gI_sI_eq, zU_eq], rfl⟩
      · rintro i _ h1 hi ⟨hi0, P1, K1, S1, t1, rfl⟩ k
        have vi := zIv_days v i.toNat (by omega)
        rw [fDays_next hi0] at k
        rw [eX0_day_53]
        have W1 := P1.2.1
        simp (disch := (first | (simp only [gK_sI, gK_sJ, gK_sR, gK_sIA, gK_sJA, gR_sI, gR_sJ, gR_sIA, Nat.reduceLeDiff, Nat.reduceEqDiff, Nat.reduceLT, Int.reduceLE, Int.reduceLT, Int.reduceEq, zWt_i, zWt_l, zWt_r, zWt_n, K1, zXkk K1, zXh0 K1, W1, zWkk W1] <;> omega) | omega | fail)) only [if_pos, if_neg, wI_id, zLc_lt, zLc_gt, zLc_eq, zLc_le, zLc_ge, Int.reduceEq, Int.reduceLE, Int.reduceLT, Int.reduceNeg, Int.reduceAdd, Int.reduceMul, Int.reduceSub, not_true_eq_false, not_false_eq_true, reduceIte, zPo_v, zPo_n, zPo_t, zKl_i, zKl_r, zKl_n, zKl_l, gK_sI, gK_sJ, gK_sR, gK_sIA, gK_sJA, gR_sI, gR_sJ, gJ_sI, gI_sJ, gI_sR, gJ_sR, gR_sIA, gJ_sIA, Nat.reduceLeDiff, Nat.reduceEqDiff, and_self, and_true, true_and, and_false, false_and, eX0_day_0, eX0_day_1, eX0_day_2, eX0_day_3, eX0_day_4, eX0_day_7, eX0_day_10, eX0_day_13, eX0_day_14, eX0_day_17, eX0_day_18, eX0_day_21, eX0_day_24, eX0_day_25, eX0_day_26, eX0_day_29, eX0_day_32, eX0_day_33, eX0_day_36, eX0_day_37, eX0_day_40, eX0_day_41, eX0_day_44, eX0_day_47, eX0_day_48, eX0_day_49, eX0_day_50, eX0_day_51, eX0_day_52, eX0_day_54, eX0_day_55, eX0_day_58, eX0_day_59, eX0_day_60, eX0_day_63, eX0_day_66, eX0_day_67, eX0_day_68, eX0_day_71, eX0_day_74, eX0_day_75, tX0_day, eX0_day_in, K1, zXkk K1, zXh0 K1, kX0_at]
        refine kX_goes vi P1 (by rw [fDays_5]; omega) (fun h2 P2 S2 => ?_)
        simp (disch := (first | (simp only [gK_sI, gK_sJ, gK_sR, gK_sIA, gK_sJA, gR_sI, gR_sJ, gR_sIA, Nat.reduceLeDiff, Nat.reduceEqDiff, Nat.reduceLT, Int.reduceLE, Int.reduceLT, Int.reduceEq, zWt_i, zWt_l, zWt_r, zWt_n] <;> omega) | omega | fail)) only [if_pos, if_neg, wI_id, zLc_lt, zLc_gt, zLc_eq, zLc_le, zLc_ge, Int.reduceEq, Int.reduceLE, Int.reduceLT, Int.reduceNeg, Int.reduceAdd, Int.reduceMul, Int.reduceSub, not_true_eq_false, not_false_eq_true, reduceIte, zPo_v, zPo_n, zPo_t, zKl_i, zKl_r, zKl_n, zKl_l, gK_sI, gK_sJ, gK_sR, gK_sIA, gK_sJA, gR_sI, gR_sJ, gJ_sI, gI_sJ, gI_sR, gJ_sR, gR_sIA, gJ_sIA, Nat.reduceLeDiff, Nat.reduceEqDiff, and_self, and_true, true_and, and_false, false_and, eX0_day_0, eX0_day_1, eX0_day_2, eX0_day_3, eX0_day_4, eX0_day_7, eX0_day_10, eX0_day_13, eX0_day_14, eX0_day_17, eX0_day_18, eX0_day_21, eX0_day_24, eX0_day_25, eX0_day_26, eX0_day_29, eX0_day_32, eX0_day_33, eX0_day_36, eX0_day_37, eX0_day_40, eX0_day_41, eX0_day_44, eX0_day_47, eX0_day_48, eX0_day_49, eX0_day_50, eX0_day_51, eX0_day_52, eX0_day_54, eX0_day_55, eX0_day_58, eX0_day_59, eX0_day_60, eX0_day_63, eX0_day_66, eX0_day_67, eX0_day_68, eX0_day_71, eX0_day_74, eX0_day_75, tX0_day, eX0_day_in]
        exact k _ _ ⟨by omega, P2, zXk_w S2 K1, zSx_tr S1 (zSx_w S2), by rw [zSw65 S2 (by decide)]; exact t1, rfl⟩
      · rintro _ h1 ⟨-, P1, K1, S1, t1, rfl⟩
        rw [eX0_day_53]
        simp (disch := (first | (simp only [gK_sI, gK_sJ, gK_sR, gK_sIA, gK_sJA, gR_sI, gR_sJ, gR_sIA, Nat.reduceLeDiff, Nat.reduceEqDiff, Nat.reduceLT, Int.reduceLE, Int.reduceLT, Int.reduceEq, zWt_i, zWt_l, zWt_r, zWt_n, K1, zXkk K1, zXh0 K1] <;> omega) | omega | fail)) only [if_pos, if_neg, wI_id, zLc_lt, zLc_gt, zLc_eq, zLc_le, zLc_ge, Int.reduceEq, Int.reduceLE, Int.reduceLT, Int.reduceNeg, Int.reduceAdd, Int.reduceMul, Int.reduceSub, not_true_eq_false, not_false_eq_true, reduceIte, zPo_v, zPo_n, zPo_t, zKl_i, zKl_r, zKl_n, zKl_l, gK_sI, gK_sJ, gK_sR, gK_sIA, gK_sJA, gR_sI, gR_sJ, gJ_sI, gI_sJ, gI_sR, gJ_sR, gR_sIA, gJ_sIA, Nat.reduceLeDiff, Nat.reduceEqDiff, and_self, and_true, true_and, and_false, false_and, eX0_day_0, eX0_day_1, eX0_day_2, eX0_day_3, eX0_day_4, eX0_day_7, eX0_day_10, eX0_day_13, eX0_day_14, eX0_day_17, eX0_day_18, eX0_day_21, eX0_day_24, eX0_day_25, eX0_day_26, eX0_day_29, eX0_day_32, eX0_day_33, eX0_day_36, eX0_day_37, eX0_day_40, eX0_day_41, eX0_day_44, eX0_day_47, eX0_day_48, eX0_day_49, eX0_day_50, eX0_day_51, eX0_day_52, eX0_day_54, eX0_day_55, eX0_day_58, eX0_day_59, eX0_day_60, eX0_day_63, eX0_day_66, eX0_day_67, eX0_day_68, eX0_day_71, eX0_day_74, eX0_day_75, tX0_day, eX0_day_in]
        exact zGx hQ P1 S1 t1 e
  · have e : oDay a n = (a, -1, 1) := if_neg hc
    have h9 := zGxs hQ K P zSx_rf e
    simp (disch := (first | (simp only [gK_sI, gK_sJ, gK_sR, gK_sIA, gK_sJA, gR_sI, gR_sJ, gR_sIA, Nat.reduceLeDiff, Nat.reduceEqDiff, Nat.reduceLT, Int.reduceLE, Int.reduceLT, Int.reduceEq, zWt_i, zWt_l, zWt_r, zWt_n, K, zXkk K, zXh0 K, W, zWkk W, e2] <;> omega) | omega | fail)) only [if_pos, if_neg, wI_id, zLc_lt, zLc_gt, zLc_eq, zLc_le, zLc_ge, Int.reduceEq, Int.reduceLE, Int.reduceLT, Int.reduceNeg, Int.reduceAdd, Int.reduceMul, Int.reduceSub, not_true_eq_false, not_false_eq_true, reduceIte, zPo_v, zPo_n, zPo_t, zKl_i, zKl_r, zKl_n, zKl_l, gK_sI, gK_sJ, gK_sR, gK_sIA, gK_sJA, gR_sI, gR_sJ, gJ_sI, gI_sJ, gI_sR, gJ_sR, gR_sIA, gJ_sIA, Nat.reduceLeDiff, Nat.reduceEqDiff, and_self, and_true, true_and, and_false, false_and, eX0_day_0, eX0_day_1, eX0_day_2, eX0_day_3, eX0_day_4, eX0_day_7, eX0_day_10, eX0_day_13, eX0_day_14, eX0_day_17, eX0_day_18, eX0_day_21, eX0_day_24, eX0_day_25, eX0_day_26, eX0_day_29, eX0_day_32, eX0_day_33, eX0_day_36, eX0_day_37, eX0_day_40, eX0_day_41, eX0_day_44, eX0_day_47, eX0_day_48, eX0_day_49, eX0_day_50, eX0_day_51, eX0_day_52, eX0_day_54, eX0_day_55, eX0_day_58, eX0_day_59, eX0_day_60, eX0_day_63, eX0_day_66, eX0_day_67, eX0_day_68, eX0_day_71, eX0_day_74, eX0_day_75, tX0_day, eX0_day_in, K, zXkk K, zXh0 K, W, zWkk W, kX0_isIn, gI_sI_ne, gI_sI_eq, zU_eq]
    (repeat' split) <;> first | exact h9 | (exfalso; omega)
theorem oM_war {x y z : Int} (P : zMk h) (v : zIv a) (hQ : ∀ k9, Q (zRv (zi (oWar a x y z).2.1) (zH2 (sI h 113 2 (oWar a x y z).2.2) (oWar a x y z).1 k9))) : zCm mX6_war d [zr (some 113), zi x, zi y, zi z] (zH2 h a f) Q := by
  have P2 : ∀ a f, zMk (zH2 h a f) := fun _ _ => P
  have P3 : ∀ a f x, zMk (zH2 (sI h 113 2 x) a f) := fun _ _ _ => P
  have b0 := (zIgd v).1
  have b1 := (zIgd v).2.1
  have b2 := zIports v
  have b3 := zIships v
  have b4 := zIrule v
  have e8 : 8 + 4 * x + 3 = 11 + 4 * x := by omega
  have e9 : 8 + 4 * y + 3 = 11 + 4 * y := by omega
  by_cases hc : (0 ≤ x ∧ x < a 0) ∧ (0 ≤ y ∧ y < a 0) ∧ x ≠ y
  · by_cases c : fAtWar a x y = z
    · have e : oWar a x y z = (a, 0, 7) := by
        unfold oWar
        rw [if_pos hc, if_pos c]
      unfold fAtWar at c
      have h9 := zGm hQ e f
      simp (disch := (first | (simp only [gK_sI, gK_sJ, gK_sR, gK_sIA, gK_sJA, gR_sI, gR_sJ, gR_sIA, Nat.reduceLeDiff, Nat.reduceEqDiff, Nat.reduceLT, Int.reduceLE, Int.reduceLT, Int.reduceEq, zWt_i, zWt_l, zWt_r, zWt_n, zH2_gK, zH2_mk, P, zMkk P, zMr0 P, zMk0 P] <;> omega) | omega | fail)) only [wI_id, zLc_lt, zLc_gt, zLc_eq, zLc_le, zLc_ge, Int.reduceEq, Int.reduceLE, Int.reduceLT, Int.reduceNeg, Int.reduceAdd, Int.reduceMul, Int.reduceSub, not_true_eq_false, not_false_eq_true, reduceIte, zPo_v, zPo_n, zPo_t, zKl_i, zKl_r, zKl_n, zKl_l, gK_sI, gK_sJ, gK_sR, gK_sIA, gK_sJA, gR_sI, gR_sJ, gJ_sI, gI_sJ, gI_sR, gJ_sR, gR_sIA, gJ_sIA, Nat.reduceLeDiff, Nat.reduceEqDiff, and_self, and_true, true_and, and_false, false_and, eX6_war_0, eX6_war_1, eX6_war_2, eX6_war_5, eX6_war_8, eX6_war_9, eX6_war_10, eX6_war_13, eX6_war_16, eX6_war_17, eX6_war_18, eX6_war_21, eX6_war_22, eX6_war_23, eX6_war_26, eX6_war_27, eX6_war_28, eX6_war_29, eX6_war_32, eX6_war_33, eX6_war_36, eX6_war_37, eX6_war_38, eX6_war_39, eX6_war_40, eX6_war_43, eX6_war_44, eX6_war_47, eX6_war_48, eX6_war_50, eX6_war_53, eX6_war_55, eX6_war_58, eX6_war_59, eX6_war_62, eX6_war_63, eX6_war_64, eX6_war_65, eX6_war_66, eX6_war_67, eX6_war_68, eX6_war_69, eX6_war_70, eX6_war_71, eX6_war_72, eX6_war_75, eX6_war_76, eX6_war_79, eX6_war_80, eX6_war_81, eX6_war_82, eX6_war_83, eX6_war_84, eX6_war_85, eX6_war_86, eX6_war_87, eX6_war_88, eX6_war_89, eX6_war_90, eX6_war_93, eX6_war_in, zH2_gK, zH2_gR, zH2_at, zH2_sI, zU_ne, P, zMkk P, zMr0 P, zMk0 P, cM_isNation (P2 _ _), cM_nationRow, e8, cM_isIn, cM_is (P2 _ _), zH2_sIne]
      (repeat' split at c) <;> (repeat' split) <;> first | exact h9 | (exfalso; omega)
    · have e : oWar a x y z = (fWar a x y, 1, 0) := by
        unfold oWar
        rw [if_pos hc, if_neg c]
      unfold fAtWar at c
      unfold fWar at e
      have h9 := zGm hQ e f
      have ne : 11 + 4 * y ≠ 11 + 4 * x := by omega
      by_cases c1 : zAnd (zShr (a (11 + 4 * x)) y) 1 = 1
      · rw [if_pos c1] at c
        simp (disch := (first | (simp only [gK_sI, gK_sJ, gK_sR, gK_sIA, gK_sJA, gR_sI, gR_sJ, gR_sIA, Nat.reduceLeDiff, Nat.reduceEqDiff, Nat.reduceLT, Int.reduceLE, Int.reduceLT, Int.reduceEq, zWt_i, zWt_l, zWt_r, zWt_n, zH2_gK, zH2_mk, P, zMkk P, zMr0 P, zMk0 P] <;> omega) | omega | fail)) only [if_pos, if_neg, wI_id, zLc_lt, zLc_gt, zLc_eq, zLc_le, zLc_ge, Int.reduceEq, Int.reduceLE, Int.reduceLT, Int.reduceNeg, Int.reduceAdd, Int.reduceMul, Int.reduceSub, not_true_eq_false, not_false_eq_true, reduceIte, zPo_v, zPo_n, zPo_t, zKl_i, zKl_r, zKl_n, zKl_l, gK_sI, gK_sJ, gK_sR, gK_sIA, gK_sJA, gR_sI, gR_sJ, gJ_sI, gI_sJ, gI_sR, gJ_sR, gR_sIA, gJ_sIA, Nat.reduceLeDiff, Nat.reduceEqDiff, and_self, and_true, true_and, and_false, false_and, eX6_war_0, eX6_war_1, eX6_war_2, eX6_war_5, eX6_war_8, eX6_war_9, eX6_war_10, eX6_war_13, eX6_war_16, eX6_war_17, eX6_war_18, eX6_war_21, eX6_war_22, eX6_war_23, eX6_war_26, eX6_war_27, eX6_war_28, eX6_war_29, eX6_war_32, eX6_war_33, eX6_war_36, eX6_war_37, eX6_war_38, eX6_war_39, eX6_war_40, eX6_war_43, eX6_war_44, eX6_war_47, eX6_war_48, eX6_war_50, eX6_war_53, eX6_war_54, eX6_war_55, eX6_war_58, eX6_war_59, eX6_war_62, eX6_war_63, eX6_war_64, eX6_war_65, eX6_war_66, eX6_war_67, eX6_war_68, eX6_war_69, eX6_war_70, eX6_war_71, eX6_war_72, eX6_war_75, eX6_war_76, eX6_war_79, eX6_war_80, eX6_war_81, eX6_war_82, eX6_war_83, eX6_war_84, eX6_war_85, eX6_war_86, eX6_war_87, eX6_war_88, eX6_war_89, eX6_war_90, eX6_war_93, eX6_war_in, zH2_gK, zH2_gR, zH2_at, zH2_sI, zU_ne, P, zMkk P, zMr0 P, zMk0 P, cM_isNation (P2 _ _), cM_nationRow, e8, e9, cM_isIn, c1, cM_is (P2 _ _), zH2_sIne, zH2_sI, zU_ne ne]
        exact h9
      · rw [if_neg c1] at c
        simp (disch := (first | (simp only [gK_sI, gK_sJ, gK_sR, gK_sIA, gK_sJA, gR_sI, gR_sJ, gR_sIA, Nat.reduceLeDiff, Nat.reduceEqDiff, Nat.reduceLT, Int.reduceLE, Int.reduceLT, Int.reduceEq, zWt_i, zWt_l, zWt_r, zWt_n, zH2_gK, zH2_mk, P, zMkk P, zMr0 P, zMk0 P] <;> omega) | omega | fail)) only [if_pos, if_neg, wI_id, zLc_lt, zLc_gt, zLc_eq, zLc_le, zLc_ge, Int.reduceEq, Int.reduceLE, Int.reduceLT, Int.reduceNeg, Int.reduceAdd, Int.reduceMul, Int.reduceSub, not_true_eq_false, not_false_eq_true, reduceIte, zPo_v, zPo_n, zPo_t, zKl_i, zKl_r, zKl_n, zKl_l, gK_sI, gK_sJ, gK_sR, gK_sIA, gK_sJA, gR_sI, gR_sJ, gJ_sI, gI_sJ, gI_sR, gJ_sR, gR_sIA, gJ_sIA, Nat.reduceLeDiff, Nat.reduceEqDiff, and_self, and_true, true_and, and_false, false_and, eX6_war_0, eX6_war_1, eX6_war_2, eX6_war_5, eX6_war_8, eX6_war_9, eX6_war_10, eX6_war_13, eX6_war_16, eX6_war_17, eX6_war_18, eX6_war_21, eX6_war_22, eX6_war_23, eX6_war_26, eX6_war_27, eX6_war_28, eX6_war_29, eX6_war_32, eX6_war_33, eX6_war_36, eX6_war_37, eX6_war_38, eX6_war_39, eX6_war_40, eX6_war_43, eX6_war_44, eX6_war_47, eX6_war_48, eX6_war_50, eX6_war_53, eX6_war_54, eX6_war_55, eX6_war_58, eX6_war_59, eX6_war_62, eX6_war_63, eX6_war_64, eX6_war_65, eX6_war_66, eX6_war_67, eX6_war_68, eX6_war_69, eX6_war_70, eX6_war_71, eX6_war_72, eX6_war_75, eX6_war_76, eX6_war_79, eX6_war_80, eX6_war_81, eX6_war_82, eX6_war_83, eX6_war_84, eX6_war_85, eX6_war_86, eX6_war_87, eX6_war_88, eX6_war_89, eX6_war_90, eX6_war_93, eX6_war_in, zH2_gK, zH2_gR, zH2_at, zH2_sI, zU_ne, P, zMkk P, zMr0 P, zMk0 P, cM_isNation (P2 _ _), cM_nationRow, e8, e9, cM_isIn, c1, cM_is (P2 _ _), zH2_sIne, zH2_sI, zU_ne ne]
        exact h9
  · have e : oWar a x y z = (a, 0, 1) := if_neg hc
    have h9 := zGm hQ e f
    simp (disch := (first | (simp only [gK_sI, gK_sJ, gK_sR, gK_sIA, gK_sJA, gR_sI, gR_sJ, gR_sIA, Nat.reduceLeDiff, Nat.reduceEqDiff, Nat.reduceLT, Int.reduceLE, Int.reduceLT, Int.reduceEq, zWt_i, zWt_l, zWt_r, zWt_n, zH2_gK, zH2_mk, P, zMkk P, zMr0 P, zMk0 P] <;> omega) | omega | fail)) only [wI_id, zLc_lt, zLc_gt, zLc_eq, zLc_le, zLc_ge, Int.reduceEq, Int.reduceLE, Int.reduceLT, Int.reduceNeg, Int.reduceAdd, Int.reduceMul, Int.reduceSub, not_true_eq_false, not_false_eq_true, reduceIte, zPo_v, zPo_n, zPo_t, zKl_i, zKl_r, zKl_n, zKl_l, gK_sI, gK_sJ, gK_sR, gK_sIA, gK_sJA, gR_sI, gR_sJ, gJ_sI, gI_sJ, gI_sR, gJ_sR, gR_sIA, gJ_sIA, Nat.reduceLeDiff, Nat.reduceEqDiff, and_self, and_true, true_and, and_false, false_and, eX6_war_0, eX6_war_1, eX6_war_2, eX6_war_5, eX6_war_8, eX6_war_9, eX6_war_10, eX6_war_13, eX6_war_16, eX6_war_17, eX6_war_18, eX6_war_21, eX6_war_22, eX6_war_23, eX6_war_26, eX6_war_28, eX6_war_29, eX6_war_32, eX6_war_33, eX6_war_36, eX6_war_37, eX6_war_38, eX6_war_39, eX6_war_40, eX6_war_43, eX6_war_44, eX6_war_47, eX6_war_48, eX6_war_50, eX6_war_53, eX6_war_54, eX6_war_55, eX6_war_58, eX6_war_59, eX6_war_62, eX6_war_63, eX6_war_64, eX6_war_65, eX6_war_66, eX6_war_67, eX6_war_68, eX6_war_69, eX6_war_70, eX6_war_71, eX6_war_72, eX6_war_75, eX6_war_76, eX6_war_79, eX6_war_80, eX6_war_81, eX6_war_82, eX6_war_83, eX6_war_84, eX6_war_85, eX6_war_86, eX6_war_87, eX6_war_88, eX6_war_89, eX6_war_90, eX6_war_93, eX6_war_in, zH2_gK, zH2_gR, zH2_at, zH2_sI, zU_ne, P, zMkk P, zMr0 P, zMk0 P, cM_isNation (P2 _ _), cM_is (P2 _ _), zH2_sIne]
    (repeat' split) <;> first | exact h9 | (exfalso; omega)
theorem oX_war {x y z : Int} (K : zXk h) (v : zIv a) (P : zPw h 75 a nm) (hQ : ∀ h', zPw h' 75 (oWar a x y z).1 nm → zSx h h' → gI h' 65 7 = (oWar a x y z).2.2 → Q (zRv (zi (oWar a x y z).2.1) h')) : zCm mX0_war d [zr (some 65), zi x, zi y, zi z] h Q := by
  have W := P.2.1
  have e2 : ∀ x, zXk (sI h 65 7 x) := fun _ => K
  have P9 : ∀ x, zPw (sI h 65 7 x) 75 a nm := fun x => zPw_st v P K
  have S9 : ∀ x, zSx h (sI h 65 7 x) := fun x => zSx_st zSx_rf
  have b0 := (zIgd v).1
  have b1 := (zIgd v).2.1
  have b2 := zIports v
  have b3 := zIships v
  have b4 := zIrule v
  have q6 : ∀ n, 0 ≤ n → n < 6 → gI h 80 n = a (11 + 4 * n) := P.2.2.1.2.2.2.2.2.2.1
  by_cases hc : (0 ≤ x ∧ x < a 0) ∧ (0 ≤ y ∧ y < a 0) ∧ x ≠ y
  · have qx := q6 x (by omega) (by omega)
    have qy := q6 y (by omega) (by omega)
    by_cases c : fAtWar a x y = z
    · have e : oWar a x y z = (a, 0, 7) := by
        unfold oWar
        rw [if_pos hc, if_pos c]
      unfold fAtWar at c
      have h9 := zGxs hQ K P zSx_rf e
      simp (disch := (first | (simp only [gK_sI, gK_sJ, gK_sR, gK_sIA, gK_sJA, gR_sI, gR_sJ, gR_sIA, Nat.reduceLeDiff, Nat.reduceEqDiff, Nat.reduceLT, Int.reduceLE, Int.reduceLT, Int.reduceEq, zWt_i, zWt_l, zWt_r, zWt_n, K, zXkk K, zXh0 K, W, zWkk W, zWr10 W, zWk10 W, e2] <;> omega) | omega | fail)) only [wI_id, zLc_lt, zLc_gt, zLc_eq, zLc_le, zLc_ge, Int.reduceEq, Int.reduceLE, Int.reduceLT, Int.reduceNeg, Int.reduceAdd, Int.reduceMul, Int.reduceSub, not_true_eq_false, not_false_eq_true, reduceIte, zPo_v, zPo_n, zPo_t, zKl_i, zKl_r, zKl_n, zKl_l, gK_sI, gK_sJ, gK_sR, gK_sIA, gK_sJA, gR_sI, gR_sJ, gJ_sI, gI_sJ, gI_sR, gJ_sR, gR_sIA, gJ_sIA, Nat.reduceLeDiff, Nat.reduceEqDiff, and_self, and_true, true_and, and_false, false_and, eX0_war_0, eX0_war_1, eX0_war_2, eX0_war_3, eX0_war_6, eX0_war_9, eX0_war_10, eX0_war_11, eX0_war_14, eX0_war_17, eX0_war_18, eX0_war_19, eX0_war_22, eX0_war_23, eX0_war_26, eX0_war_27, eX0_war_30, eX0_war_33, eX0_war_34, eX0_war_35, eX0_war_36, eX0_war_39, eX0_war_40, eX0_war_43, eX0_war_45, eX0_war_48, eX0_war_49, eX0_war_52, eX0_war_53, eX0_war_56, eX0_war_59, eX0_war_60, eX0_war_62, eX0_war_65, eX0_war_68, eX0_war_69, eX0_war_70, eX0_war_71, eX0_war_72, eX0_war_73, eX0_war_74, eX0_war_75, eX0_war_76, eX0_war_77, eX0_war_80, eX0_war_83, eX0_war_84, eX0_war_85, eX0_war_86, eX0_war_87, eX0_war_88, eX0_war_89, eX0_war_90, eX0_war_91, eX0_war_92, tX0_war, eX0_war_in, K, zXkk K, zXh0 K, W, zWkk W, zWr10 W, zWk10 W, kX0_isNation K v P, kX0_at, cX_has, Nat.reduceAdd, qx, gI_sI_ne, gI_sI_eq, zU_eq]
      (repeat' split at c) <;> (repeat' split) <;> first | exact h9 | (exfalso; omega)
    · have e : oWar a x y z = (fWar a x y, 1, 0) := by
        unfold oWar
        rw [if_pos hc, if_neg c]
      unfold fAtWar at c
      unfold fWar at e
      have ne : 11 + 4 * y ≠ 11 + 4 * x := by omega
      have h9 : Q (zRv (zi 1) (sI (sI (sI h 65 7 0) 80 x (zXor (a (11 + 4 * x)) (zShl 1 y))) 80 y (zXor (a (11 + 4 * y)) (zShl 1 x)))) := by
        refine zGx hQ ?_ (zSx_sI (zSx_sI (S9 0) (by decide) (by decide)) (by decide) (by decide)) (by rw [gI_sI_ne (by decide), gI_sI_ne (by decide), gI_sI_eq, zU_eq]) e
        refine zPw_war ?_ (zPw_war v (P9 0) (by omega) (by omega)) (by omega) (by omega)
        exact zIv_war v (by omega) (by omega) (fXor_b (zIwar v x (by omega) (by omega)) (by omega) (by omega)).1 (fXor_b (zIwar v x (by omega) (by omega)) (by omega) (by omega)).2
      by_cases c1 : zAnd (zShr (a (11 + 4 * x)) y) 1 = 1
      · rw [if_pos c1] at c
        simp (disch := (first | (simp only [gK_sI, gK_sJ, gK_sR, gK_sIA, gK_sJA, gR_sI, gR_sJ, gR_sIA, Nat.reduceLeDiff, Nat.reduceEqDiff, Nat.reduceLT, Int.reduceLE, Int.reduceLT, Int.reduceEq, zWt_i, zWt_l, zWt_r, zWt_n, K, zXkk K, zXh0 K, W, zWkk W, zWr10 W, zWk10 W, zXk_sI] <;> omega) | omega | fail)) only [if_pos, if_neg, wI_id, zLc_lt, zLc_gt, zLc_eq, zLc_le, zLc_ge, Int.reduceEq, Int.reduceLE, Int.reduceLT, Int.reduceNeg, Int.reduceAdd, Int.reduceMul, Int.reduceSub, not_true_eq_false, not_false_eq_true, reduceIte, zPo_v, zPo_n, zPo_t, zKl_i, zKl_r, zKl_n, zKl_l, gK_sI, gK_sJ, gK_sR, gK_sIA, gK_sJA, gR_sI, gR_sJ, gJ_sI, gI_sJ, gI_sR, gJ_sR, gR_sIA, gJ_sIA, Nat.reduceLeDiff, Nat.reduceEqDiff, and_self, and_true, true_and, and_false, false_and, eX0_war_0, eX0_war_1, eX0_war_2, eX0_war_3, eX0_war_6, eX0_war_9, eX0_war_10, eX0_war_11, eX0_war_14, eX0_war_17, eX0_war_18, eX0_war_19, eX0_war_22, eX0_war_23, eX0_war_26, eX0_war_27, eX0_war_30, eX0_war_33, eX0_war_34, eX0_war_35, eX0_war_36, eX0_war_39, eX0_war_40, eX0_war_43, eX0_war_45, eX0_war_48, eX0_war_49, eX0_war_52, eX0_war_53, eX0_war_56, eX0_war_59, eX0_war_60, eX0_war_61, eX0_war_62, eX0_war_65, eX0_war_68, eX0_war_69, eX0_war_70, eX0_war_71, eX0_war_72, eX0_war_73, eX0_war_74, eX0_war_75, eX0_war_76, eX0_war_77, eX0_war_80, eX0_war_83, eX0_war_84, eX0_war_85, eX0_war_86, eX0_war_87, eX0_war_88, eX0_war_89, eX0_war_90, eX0_war_91, eX0_war_92, tX0_war, eX0_war_in, K, zXkk K, zXh0 K, W, zWkk W, zWr10 W, zWk10 W, kX0_isNation K v P, kX0_at, cX_has, Nat.reduceAdd, qx, qy, c1, gI_sI_ne, gI_sI_eq, zU_eq, zU_ne]
        exact h9
      · rw [if_neg c1] at c
        simp (disch := (first | (simp only [gK_sI, gK_sJ, gK_sR, gK_sIA, gK_sJA, gR_sI, gR_sJ, gR_sIA, Nat.reduceLeDiff, Nat.reduceEqDiff, Nat.reduceLT, Int.reduceLE, Int.reduceLT, Int.reduceEq, zWt_i, zWt_l, zWt_r, zWt_n, K, zXkk K, zXh0 K, W, zWkk W, zWr10 W, zWk10 W, zXk_sI] <;> omega) | omega | fail)) only [if_pos, if_neg, wI_id, zLc_lt, zLc_gt, zLc_eq, zLc_le, zLc_ge, Int.reduceEq, Int.reduceLE, Int.reduceLT, Int.reduceNeg, Int.reduceAdd, Int.reduceMul, Int.reduceSub, not_true_eq_false, not_false_eq_true, reduceIte, zPo_v, zPo_n, zPo_t, zKl_i, zKl_r, zKl_n, zKl_l, gK_sI, gK_sJ, gK_sR, gK_sIA, gK_sJA, gR_sI, gR_sJ, gJ_sI, gI_sJ, gI_sR, gJ_sR, gR_sIA, gJ_sIA, Nat.reduceLeDiff, Nat.reduceEqDiff, and_self, and_true, true_and, and_false, false_and, eX0_war_0, eX0_war_1, eX0_war_2, eX0_war_3, eX0_war_6, eX0_war_9, eX0_war_10, eX0_war_11, eX0_war_14, eX0_war_17, eX0_war_18, eX0_war_19, eX0_war_22, eX0_war_23, eX0_war_26, eX0_war_27, eX0_war_30, eX0_war_33, eX0_war_34, eX0_war_35, eX0_war_36, eX0_war_39, eX0_war_40, eX0_war_43, eX0_war_45, eX0_war_48, eX0_war_49, eX0_war_52, eX0_war_53, eX0_war_56, eX0_war_59, eX0_war_60, eX0_war_61, eX0_war_62, eX0_war_65, eX0_war_68, eX0_war_69, eX0_war_70, eX0_war_71, eX0_war_72, eX0_war_73, eX0_war_74, eX0_war_75, eX0_war_76, eX0_war_77, eX0_war_80, eX0_war_83, eX0_war_84, eX0_war_85, eX0_war_86, eX0_war_87, eX0_war_88, eX0_war_89, eX0_war_90, eX0_war_91, eX0_war_92, tX0_war, eX0_war_in, K, zXkk K, zXh0 K, W, zWkk W, zWr10 W, zWk10 W, kX0_isNation K v P, kX0_at, cX_has, Nat.reduceAdd, qx, qy, c1, gI_sI_ne, gI_sI_eq, zU_eq, zU_ne]
        exact h9
  · have e : oWar a x y z = (a, 0, 1) := if_neg hc
    have h9 := zGxs hQ K P zSx_rf e
    simp (disch := (first | (simp only [gK_sI, gK_sJ, gK_sR, gK_sIA, gK_sJA, gR_sI, gR_sJ, gR_sIA, Nat.reduceLeDiff, Nat.reduceEqDiff, Nat.reduceLT, Int.reduceLE, Int.reduceLT, Int.reduceEq, zWt_i, zWt_l, zWt_r, zWt_n, K, zXkk K, zXh0 K, W, zWkk W, zWr10 W, zWk10 W, e2] <;> omega) | omega | fail)) only [wI_id, zLc_lt, zLc_gt, zLc_eq, zLc_le, zLc_ge, Int.reduceEq, Int.reduceLE, Int.reduceLT, Int.reduceNeg, Int.reduceAdd, Int.reduceMul, Int.reduceSub, not_true_eq_false, not_false_eq_true, reduceIte, zPo_v, zPo_n, zPo_t, zKl_i, zKl_r, zKl_n, zKl_l, gK_sI, gK_sJ, gK_sR, gK_sIA, gK_sJA, gR_sI, gR_sJ, gJ_sI, gI_sJ, gI_sR, gJ_sR, gR_sIA, gJ_sIA, Nat.reduceLeDiff, Nat.reduceEqDiff, and_self, and_true, true_and, and_false, false_and, eX0_war_0, eX0_war_1, eX0_war_2, eX0_war_3, eX0_war_6, eX0_war_9, eX0_war_10, eX0_war_11, eX0_war_14, eX0_war_17, eX0_war_18, eX0_war_19, eX0_war_22, eX0_war_23, eX0_war_27, eX0_war_30, eX0_war_33, eX0_war_34, eX0_war_35, eX0_war_36, eX0_war_39, eX0_war_40, eX0_war_43, eX0_war_45, eX0_war_48, eX0_war_49, eX0_war_52, eX0_war_53, eX0_war_56, eX0_war_59, eX0_war_60, eX0_war_62, eX0_war_65, eX0_war_68, eX0_war_69, eX0_war_70, eX0_war_71, eX0_war_72, eX0_war_73, eX0_war_74, eX0_war_75, eX0_war_76, eX0_war_77, eX0_war_80, eX0_war_83, eX0_war_84, eX0_war_85, eX0_war_86, eX0_war_87, eX0_war_88, eX0_war_89, eX0_war_90, eX0_war_91, eX0_war_92, tX0_war, eX0_war_in, K, zXkk K, zXh0 K, W, zWkk W, zWr10 W, zWk10 W, kX0_isNation K v P, gI_sI_ne, gI_sI_eq, zU_eq]
    (repeat' split) <;> first | exact h9 | (exfalso; omega)
end O7
