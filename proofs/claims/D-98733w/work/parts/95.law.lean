/-! ===== THE LAW, 2: the start and the loop ===== -/
set_option maxRecDepth 100000
set_option maxHeartbeats 1000000
theorem zAnd127 (x : Int) : 0 ≤ zAnd x 127 ∧ zAnd x 127 ≤ 127 := by
  have h1 : zAnd x 127 = ((x.toNat % 128 : Nat) : Int) ∨ True := Or.inr trivial
  unfold zAnd
  have e : (Int32.ofInt x &&& Int32.ofInt 127).toBitVec = (Int32.ofInt x).toBitVec &&& 127#32 := rfl
  have hlt : ((Int32.ofInt x).toBitVec &&& 127#32).toNat ≤ 127 := by
    rw [BitVec.toNat_and]
    exact Nat.and_le_right
  have e2 : (Int32.ofInt x &&& Int32.ofInt 127).toInt = (((Int32.ofInt x).toBitVec &&& 127#32).toNat : Int) := by
    show ((Int32.ofInt x &&& Int32.ofInt 127).toBitVec).toInt = _
    rw [e, BitVec.toInt_eq_toNat_of_lt (by omega)]
  rw [e2]
  omega
theorem zLawLoop {S : Int → Int} {L : Nat} {Q : zRs → Prop} (hL : L ≤ 384) (hx : ∀ j, inI (S j)) (hq : ∀ h, gC h ≤ 601536 → gS h ≤ 7250538 → Q (zRv (zi 1) h)) : ∀ (k : Nat) (i : Int) (h : zHp) (a nm : Int → Int), (L : Int) - i < 6 * k → 0 ≤ i → i ≤ 390 → zRl h a nm → gK h 0 = (1, L) → gI h 0 = S → gC h + 3000 * k ≤ 601536 → gS h + 40000 * k ≤ 7250538 → zEv mL_law 10 18 [some (zr (some 0)), some (zr (some 65)), some (zr (some 113)), some (zi i)] [] h Q := by
  have exit9 : ∀ (i : Int) (h : zHp), 0 ≤ i → i ≤ 390 → ¬ (i + 6 ≤ (L : Int)) → gK h 0 = (1, L) → gC h ≤ 601536 → gS h ≤ 7250538 → zEv mL_law 10 18 [some (zr (some 0)), some (zr (some 65)), some (zr (some 113)), some (zi i)] [] h Q := fun i h i0 i9 c hk c1 c2 => by
    rw [eL_law_18]
    have c9 : (L : Int) - 6 < i := by omega
    simp (disch := (first | (simp only [gK_sI, gK_sJ, gK_sR, gK_sIA, gK_sJA, gR_sI, gR_sJ, gR_sIA, Nat.reduceLeDiff, Nat.reduceEqDiff, Nat.reduceLT, Int.reduceLE, Int.reduceLT, Int.reduceEq, zWt_i, zWt_l, zWt_r, zWt_n, hk, c9] <;> omega) | omega | fail)) only [if_pos, if_neg, wI_id, zLc_lt, zLc_gt, zLc_eq, zLc_le, zLc_ge, Int.reduceEq, Int.reduceLE, Int.reduceLT, Int.reduceNeg, Int.reduceAdd, Int.reduceMul, Int.reduceSub, not_true_eq_false, not_false_eq_true, reduceIte, zPo_v, zPo_n, zPo_t, zKl_i, zKl_r, zKl_n, zKl_l, gK_sI, gK_sJ, gK_sR, gK_sIA, gK_sJA, gR_sI, gR_sJ, gJ_sI, gI_sJ, gI_sR, gJ_sR, gR_sIA, gJ_sIA, Nat.reduceLeDiff, Nat.reduceEqDiff, and_self, and_true, true_and, and_false, false_and, eL_law_19, eL_law_20, eL_law_21, eL_law_23, eL_law_24, eL_law_2445, eL_law_2446, hk, c9]
    exact hq h c1 c2
  intro k
  induction k with
  | zero =>
    intro i h a nm e i0 i9 R hk hs c1 c2
    exact exit9 i h i0 i9 (by omega) hk (by omega) (by omega)
  | succ k ih =>
    intro i h a nm e i0 i9 R hk hs c1 c2
    by_cases c : i + 6 ≤ (L : Int)
    · have next : ∀ h2 a2 nm2, zRl h2 a2 nm2 → zSc h h2 → zBu h h2 → zEv mL_law 10 18 [some (zr (some 0)), some (zr (some 65)), some (zr (some 113)), some (zi (i + 6))] [] h2 Q := fun h2 a2 nm2 R2 S2 B2 => ih (i + 6) h2 a2 nm2 (by omega) (by omega) (by omega) R2 (S2.2.1.trans hk) (S2.1.trans hs) (by have := B2.1; omega) (by have := B2.2.1; omega)
      have hv := zAnd127 (S i)
      rw [eL_law_18]
      have c9 : ¬ ((L : Int) - 6 < i) := by omega
      simp (disch := (first | (simp only [gK_sI, gK_sJ, gK_sR, gK_sIA, gK_sJA, gR_sI, gR_sJ, gR_sIA, Nat.reduceLeDiff, Nat.reduceEqDiff, Nat.reduceLT, Int.reduceLE, Int.reduceLT, Int.reduceEq, zWt_i, zWt_l, zWt_r, zWt_n, hk, hs, c9] <;> omega) | omega | fail)) only [if_pos, if_neg, wI_id, zLc_lt, zLc_gt, zLc_eq, zLc_le, zLc_ge, Int.reduceEq, Int.reduceLE, Int.reduceLT, Int.reduceNeg, Int.reduceAdd, Int.reduceMul, Int.reduceSub, not_true_eq_false, not_false_eq_true, reduceIte, zPo_v, zPo_n, zPo_t, zKl_i, zKl_r, zKl_n, zKl_l, gK_sI, gK_sJ, gK_sR, gK_sIA, gK_sJA, gR_sI, gR_sJ, gJ_sI, gI_sJ, gI_sR, gJ_sR, gR_sIA, gJ_sIA, Nat.reduceLeDiff, Nat.reduceEqDiff, and_self, and_true, true_and, and_false, false_and, eL_law_19, eL_law_20, eL_law_21, eL_law_23, eL_law_24, eL_law_27, eL_law_28, eL_law_29, eL_law_30, eL_law_32, hk, hs, c9]
      by_cases v9 : 65 < zAnd (S i) 127
      · rw [eL_law_33d (Or.inr v9)]
        simp (disch := (first | (simp only [gK_sI, gK_sJ, gK_sR, gK_sIA, gK_sJA, gR_sI, gR_sJ, gR_sIA, Nat.reduceLeDiff, Nat.reduceEqDiff, Nat.reduceLT, Int.reduceLE, Int.reduceLT, Int.reduceEq, zWt_i, zWt_l, zWt_r, zWt_n] <;> omega) | omega | fail)) only [if_pos, if_neg, wI_id, zLc_lt, zLc_gt, zLc_eq, zLc_le, zLc_ge, Int.reduceEq, Int.reduceLE, Int.reduceLT, Int.reduceNeg, Int.reduceAdd, Int.reduceMul, Int.reduceSub, not_true_eq_false, not_false_eq_true, reduceIte, zPo_v, zPo_n, zPo_t, zKl_i, zKl_r, zKl_n, zKl_l, gK_sI, gK_sJ, gK_sR, gK_sIA, gK_sJA, gR_sI, gR_sJ, gJ_sI, gI_sJ, gI_sR, gJ_sR, gR_sIA, gJ_sIA, Nat.reduceLeDiff, Nat.reduceEqDiff, and_self, and_true, true_and, and_false, false_and, eL_law_2439, eL_law_2442]
        exact next h a nm R zSc_rf ⟨by omega, by omega, by omega⟩
      · have hc : zAnd (S i) 127 = 0 ∨ zAnd (S i) 127 = 1 ∨ zAnd (S i) 127 = 2 ∨ zAnd (S i) 127 = 3 ∨ zAnd (S i) 127 = 4 ∨ zAnd (S i) 127 = 5 ∨ zAnd (S i) 127 = 6 ∨ zAnd (S i) 127 = 7 ∨ zAnd (S i) 127 = 8 ∨ zAnd (S i) 127 = 9 ∨ zAnd (S i) 127 = 10 ∨ zAnd (S i) 127 = 11 ∨ zAnd (S i) 127 = 12 ∨ zAnd (S i) 127 = 13 ∨ zAnd (S i) 127 = 14 ∨ zAnd (S i) 127 = 15 ∨ zAnd (S i) 127 = 16 ∨ zAnd (S i) 127 = 17 ∨ zAnd (S i) 127 = 18 ∨ zAnd (S i) 127 = 19 ∨ zAnd (S i) 127 = 20 ∨ zAnd (S i) 127 = 21 ∨ zAnd (S i) 127 = 22 ∨ zAnd (S i) 127 = 23 ∨ zAnd (S i) 127 = 24 ∨ zAnd (S i) 127 = 25 ∨ zAnd (S i) 127 = 26 ∨ zAnd (S i) 127 = 27 ∨ zAnd (S i) 127 = 28 ∨ zAnd (S i) 127 = 29 ∨ zAnd (S i) 127 = 30 ∨ zAnd (S i) 127 = 31 ∨ zAnd (S i) 127 = 32 ∨ zAnd (S i) 127 = 33 ∨ zAnd (S i) 127 = 34 ∨ zAnd (S i) 127 = 35 ∨ zAnd (S i) 127 = 36 ∨ zAnd (S i) 127 = 37 ∨ zAnd (S i) 127 = 38 ∨ zAnd (S i) 127 = 39 ∨ zAnd (S i) 127 = 40 ∨ zAnd (S i) 127 = 41 ∨ zAnd (S i) 127 = 42 ∨ zAnd (S i) 127 = 43 ∨ zAnd (S i) 127 = 44 ∨ zAnd (S i) 127 = 45 ∨ zAnd (S i) 127 = 46 ∨ zAnd (S i) 127 = 47 ∨ zAnd (S i) 127 = 48 ∨ zAnd (S i) 127 = 49 ∨ zAnd (S i) 127 = 50 ∨ zAnd (S i) 127 = 51 ∨ zAnd (S i) 127 = 52 ∨ zAnd (S i) 127 = 53 ∨ zAnd (S i) 127 = 54 ∨ zAnd (S i) 127 = 55 ∨ zAnd (S i) 127 = 56 ∨ zAnd (S i) 127 = 57 ∨ zAnd (S i) 127 = 58 ∨ zAnd (S i) 127 = 59 ∨ zAnd (S i) 127 = 60 ∨ zAnd (S i) 127 = 61 ∨ zAnd (S i) 127 = 62 ∨ zAnd (S i) 127 = 63 ∨ zAnd (S i) 127 = 64 ∨ zAnd (S i) 127 = 65 := by omega
        rcases hc with e9 | e9 | e9 | e9 | e9 | e9 | e9 | e9 | e9 | e9 | e9 | e9 | e9 | e9 | e9 | e9 | e9 | e9 | e9 | e9 | e9 | e9 | e9 | e9 | e9 | e9 | e9 | e9 | e9 | e9 | e9 | e9 | e9 | e9 | e9 | e9 | e9 | e9 | e9 | e9 | e9 | e9 | e9 | e9 | e9 | e9 | e9 | e9 | e9 | e9 | e9 | e9 | e9 | e9 | e9 | e9 | e9 | e9 | e9 | e9 | e9 | e9 | e9 | e9 | e9 | e9
        · rw [e9, eL_law_33c0]
          exact zArm_0 R hk hs i0 c hL hx next
        · rw [e9, eL_law_33c1]
          exact zArm_1 R hk hs i0 c hL hx next
        · rw [e9, eL_law_33c2]
          exact zArm_2 R hk hs i0 c hL hx next
        · rw [e9, eL_law_33c3]
          exact zArm_3 R hk hs i0 c hL hx next
        · rw [e9, eL_law_33c4]
          exact zArm_4 R hk hs i0 c hL hx next
        · rw [e9, eL_law_33c5]
          exact zArm_5 R hk hs i0 c hL hx next
        · rw [e9, eL_law_33c6]
          exact zArm_6 R hk hs i0 c hL hx next
        · rw [e9, eL_law_33c7]
          exact zArm_7 R hk hs i0 c hL hx next
        · rw [e9, eL_law_33c8]
          exact zArm_8 R hk hs i0 c hL hx next
        · rw [e9, eL_law_33c9]
          exact zArm_9 R hk hs i0 c hL hx next
        · rw [e9, eL_law_33c10]
          exact zArm_10 R hk hs i0 c hL hx next
        · rw [e9, eL_law_33c11]
          exact zArm_11 R hk hs i0 c hL hx next
        · rw [e9, eL_law_33c12]
          exact zArm_12 R hk hs i0 c hL hx next
        · rw [e9, eL_law_33c13]
          exact zArm_13 R hk hs i0 c hL hx next
        · rw [e9, eL_law_33c14]
          exact zArm_14 R hk hs i0 c hL hx next
        · rw [e9, eL_law_33c15]
          exact zArm_15 R hk hs i0 c hL hx next
        · rw [e9, eL_law_33c16]
          exact zArm_16 R hk hs i0 c hL hx next
        · rw [e9, eL_law_33c17]
          exact zArm_17 R hk hs i0 c hL hx next
        · rw [e9, eL_law_33c18]
          exact zArm_18 R hk hs i0 c hL hx next
        · rw [e9, eL_law_33c19]
          exact zArm_19 R hk hs i0 c hL hx next
        · rw [e9, eL_law_33c20]
          exact zArm_20 R hk hs i0 c hL hx next
        · rw [e9, eL_law_33c21]
          exact zArm_21 R hk hs i0 c hL hx next
        · rw [e9, eL_law_33c22]
          exact zArm_22 R hk hs i0 c hL hx next
        · rw [e9, eL_law_33c23]
          exact zArm_23 R hk hs i0 c hL hx next
        · rw [e9, eL_law_33c24]
          exact zArm_24 R hk hs i0 c hL hx next
        · rw [e9, eL_law_33c25]
          exact zArm_25 R hk hs i0 c hL hx next
        · rw [e9, eL_law_33c26]
          exact zArm_26 R hk hs i0 c hL hx next
        · rw [e9, eL_law_33c27]
          exact zArm_27 R hk hs i0 c hL hx next
        · rw [e9, eL_law_33c28]
          exact zArm_28 R hk hs i0 c hL hx next
        · rw [e9, eL_law_33c29]
          exact zArm_29 R hk hs i0 c hL hx next
        · rw [e9, eL_law_33c30]
          exact zArm_30 R hk hs i0 c hL hx next
        · rw [e9, eL_law_33c31]
          exact zArm_31 R hk hs i0 c hL hx next
        · rw [e9, eL_law_33c32]
          exact zArm_32 R hk hs i0 c hL hx next
        · rw [e9, eL_law_33c33]
          exact zArm_33 R hk hs i0 c hL hx next
        · rw [e9, eL_law_33c34]
          exact zArm_34 R hk hs i0 c hL hx next
        · rw [e9, eL_law_33c35]
          exact zArm_35 R hk hs i0 c hL hx next
        · rw [e9, eL_law_33c36]
          exact zArm_36 R hk hs i0 c hL hx next
        · rw [e9, eL_law_33c37]
          exact zArm_37 R hk hs i0 c hL hx next
        · rw [e9, eL_law_33c38]
          exact zArm_38 R hk hs i0 c hL hx next
        · rw [e9, eL_law_33c39]
          exact zArm_39 R hk hs i0 c hL hx next
        · rw [e9, eL_law_33c40]
          exact zArm_40 R hk hs i0 c hL hx next
        · rw [e9, eL_law_33c41]
          exact zArm_41 R hk hs i0 c hL hx next
        · rw [e9, eL_law_33c42]
          exact zArm_42 R hk hs i0 c hL hx next
        · rw [e9, eL_law_33c43]
          exact zArm_43 R hk hs i0 c hL hx next
        · rw [e9, eL_law_33c44]
          exact zArm_44 R hk hs i0 c hL hx next
        · rw [e9, eL_law_33c45]
          exact zArm_45 R hk hs i0 c hL hx next
        · rw [e9, eL_law_33c46]
          exact zArm_46 R hk hs i0 c hL hx next
        · rw [e9, eL_law_33c47]
          exact zArm_47 R hk hs i0 c hL hx next
        · rw [e9, eL_law_33c48]
          exact zArm_48 R hk hs i0 c hL hx next
        · rw [e9, eL_law_33c49]
          exact zArm_49 R hk hs i0 c hL hx next
        · rw [e9, eL_law_33c50]
          exact zArm_50 R hk hs i0 c hL hx next
        · rw [e9, eL_law_33c51]
          exact zArm_51 R hk hs i0 c hL hx next
        · rw [e9, eL_law_33c52]
          exact zArm_52 R hk hs i0 c hL hx next
        · rw [e9, eL_law_33c53]
          exact zArm_53 R hk hs i0 c hL hx next
        · rw [e9, eL_law_33c54]
          exact zArm_54 R hk hs i0 c hL hx next
        · rw [e9, eL_law_33c55]
          exact zArm_55 R hk hs i0 c hL hx next
        · rw [e9, eL_law_33c56]
          exact zArm_56 R hk hs i0 c hL hx next
        · rw [e9, eL_law_33c57]
          exact zArm_57 R hk hs i0 c hL hx next
        · rw [e9, eL_law_33c58]
          exact zArm_58 R hk hs i0 c hL hx next
        · rw [e9, eL_law_33c59]
          exact zArm_59 R hk hs i0 c hL hx next
        · rw [e9, eL_law_33c60]
          exact zArm_60 R hk hs i0 c hL hx next
        · rw [e9, eL_law_33c61]
          exact zArm_61 R hk hs i0 c hL hx next
        · rw [e9, eL_law_33c62]
          exact zArm_62 R hk hs i0 c hL hx next
        · rw [e9, eL_law_33c63]
          exact zArm_63 R hk hs i0 c hL hx next
        · rw [e9, eL_law_33c64]
          exact zArm_64 R hk hs i0 c hL hx next
        · rw [e9, eL_law_33c65]
          exact zArm_65 R hk hs i0 c hL hx next
    · exact exit9 i h i0 i9 c hk (by omega) (by omega)
/-- what stands there at the start is related -/
theorem zStart {xs : Nat → Int32} {L : Nat} {H H2 : zHp} (F : zXn (gNew (zH0 xs L) (0, 0) 25) 47 1377 zEd17 (zU (zU (fun _ => 0) 3 (-1)) 4 (-1)) (zU (fun _ => 0) 9 1) H) (F2 : zMn (gNew H (0, 6) 42) 15 6367 (zU (zU (gI (gNew H (0, 6) 42) 113) 16 (-1)) 17 (-1)) (zU (gJ (gNew H (0, 6) 42) 113) 4 1) H2) (M2 : zMk H2) : zRl (sIA H2 114 (fPlain (fun _ => 0) 0)) (fPlain (fun _ => 0) 0) (fun _ => 0) ∧ gK (sIA H2 114 (fPlain (fun _ => 0) 0)) 0 = (1, L) ∧ gI (sIA H2 114 (fPlain (fun _ => 0) 0)) 0 = (fun j : Int => (xs j.toNat).toInt) ∧ gC H2 = 64 ∧ gS H2 = 7811 := by
  obtain ⟨f1, f2, f3, f4, f5, f6, f7, f8, f9, fa, fb, fc, fd⟩ := F
  obtain ⟨g1, g2, g3, g4, g5, g6, g7, g8, g9, ga, gb⟩ := F2
  have nH : gN H = 113 := f1
  generalize hh : sIA H2 114 (fPlain (fun _ => 0) 0) = h9
  have iK : gK h9 = gK H2 := by rw [← hh]; rfl
  have iR : gR h9 = gR H2 := by rw [← hh]; rfl
  have iJ : gJ h9 = gJ H2 := by rw [← hh]; rfl
  have iN : gN h9 = 129 := by rw [← hh]; exact g1
  have iI : ∀ b, b ≠ 114 → gI h9 b = gI H2 b := fun b hb => by rw [← hh]; exact gI_sIA_ne hb
  have i114 : gI h9 114 = fPlain (fun _ => 0) 0 := by rw [← hh]; exact gI_sIA_eq
  have bK : ∀ b, b < 113 → gK h9 b = gK H b := fun b hb => by rw [iK, g5 b (Or.inl (by omega)), gK_new_ne (by omega)]
  have bR : ∀ b, b < 113 → gR h9 b = gR H b := fun b hb => by rw [iR, g7 b (Or.inl hb), gR_new_ne (by omega)]
  have bI : ∀ b, b < 113 → gI h9 b = gI H b ∧ gJ h9 b = gJ H b := fun b hb => by rw [iI b (by omega), iJ, (g8 b (Or.inl hb)).1, (g8 b (Or.inl hb)).2, gI_new_ne (by omega), gJ_new_ne (by omega)]; exact ⟨rfl, rfl⟩
  have kE : ∀ i, i < 47 → gK h9 (66 + i) = zKy i := fun i hi => by rw [bK _ (by omega)]; exact f4 i hi
  have rE : ∀ b, 65 ≤ b → b < 113 → b ≠ 75 → b ≠ 92 → gR h9 b = zEd17 b := fun b b0 b1 b2 b3 => by rw [bR b b1]; exact f6 b b0 (by omega) b2 b3
  have r75 : ∀ j : Int, 6 ≤ j → j ≤ 20 → gR h9 75 j = some (70 + j.toNat) := fun j j0 j1 => by rw [bR 75 (by decide)]; exact fc (by decide) j j0 j1
  have r92 : ∀ j : Int, 6 ≤ j → j ≤ 20 → gR h9 92 j = some (87 + j.toNat) := fun j j0 j1 => by rw [bR 92 (by decide)]; exact fd (by decide) j j0 j1
  have z0 : ∀ b, 66 ≤ b → b < 113 → gI h9 b = fun _ => 0 := fun b b0 b1 => by rw [(bI b b1).1]; exact (f9 b b0 (by omega)).1
  have x65 : gI h9 65 = zU (zU (fun _ => 0) 3 (-1)) 4 (-1) := by rw [(bI 65 (by decide)).1]; exact fa
  have y65 : gJ h9 65 = zU (fun _ => 0) 9 1 := by rw [(bI 65 (by decide)).2]; exact fb
  have x113 : gI h9 113 = zU (zU (fun _ => 0) 16 (-1)) 17 (-1) := by rw [iI 113 (by decide), ga, gI_new_eq nH.symm]
  have y113 : gJ h9 113 = zU (fun _ => 0) 4 1 := by rw [iJ, gb, gJ_new_eq nH.symm]
  have kM : ∀ i, i < 15 → gK h9 (114 + i) = zKm i := fun i hi => by rw [iK]; exact g4 i hi
  have zM : ∀ i, i < 15 → gI H2 (114 + i) = (if i = 3 then zT4 else fun _ => 0) ∧ gJ h9 (114 + i) = (fun _ => 0) := fun i hi => ⟨(g9 i hi).1, by rw [iJ]; exact (g9 i hi).2.1⟩
  have a0 : ∀ k : Int, k ≠ 6 → fPlain (fun _ => 0) 0 k = 0 := fun k hk => by
    unfold fPlain
    split
    · rw [if_neg (by omega)]
    · rfl
  have a6 : fPlain (fun _ => 0) 0 6 = -1 := rfl
  have k0 : gK h9 0 = (1, L) := by
    rw [bK 0 (by decide), f5 0 (Or.inl (by decide))]
    rfl
  have K : zXk h9 := ⟨by rw [bK 65 (by decide), f5 65 (Or.inl (by decide))]; rfl, by rw [rE 65 (by decide) (by decide) (by decide) (by decide)]; rfl, kE 0 (by decide), by rw [rE 65 (by decide) (by decide) (by decide) (by decide)]; rfl, kE 5 (by decide), by rw [rE 65 (by decide) (by decide) (by decide) (by decide)]; rfl, kE 6 (by decide), by rw [rE 65 (by decide) (by decide) (by decide) (by decide)]; rfl, kE 7 (by decide), by rw [rE 65 (by decide) (by decide) (by decide) (by decide)]; rfl, kE 8 (by decide), by rw [rE 65 (by decide) (by decide) (by decide) (by decide)]; rfl, kE 25 (by decide), by rw [rE 65 (by decide) (by decide) (by decide) (by decide)]; rfl, by rw [rE 65 (by decide) (by decide) (by decide) (by decide)]; rfl, kE 42 (by decide), by rw [rE 65 (by decide) (by decide) (by decide) (by decide)]; rfl, kE 43 (by decide), by rw [rE 65 (by decide) (by decide) (by decide) (by decide)]; rfl, kE 44 (by decide), by rw [rE 65 (by decide) (by decide) (by decide) (by decide)]; rfl, kE 45 (by decide), by rw [rE 65 (by decide) (by decide) (by decide) (by decide)]; rfl, kE 46 (by decide), by rw [rE 66 (by decide) (by decide) (by decide) (by decide)]; rfl, kE 1 (by decide), by rw [rE 66 (by decide) (by decide) (by decide) (by decide)]; rfl, kE 2 (by decide), by rw [rE 66 (by decide) (by decide) (by decide) (by decide)]; rfl, kE 3 (by decide), by rw [rE 66 (by decide) (by decide) (by decide) (by decide)]; rfl, kE 4 (by decide), by rw [rE 74 (by decide) (by decide) (by decide) (by decide)]; rfl⟩
  have W75 : zWk h9 75 := ⟨kE 9 (by decide), r75 10 (by decide) (by decide), kE 14 (by decide), r75 11 (by decide) (by decide), kE 15 (by decide), r75 12 (by decide) (by decide), kE 16 (by decide), r75 13 (by decide) (by decide), kE 17 (by decide), r75 14 (by decide) (by decide), kE 18 (by decide), r75 15 (by decide) (by decide), kE 19 (by decide), r75 16 (by decide) (by decide), kE 20 (by decide), r75 17 (by decide) (by decide), kE 21 (by decide), r75 18 (by decide) (by decide), kE 22 (by decide), r75 19 (by decide) (by decide), kE 23 (by decide), r75 20 (by decide) (by decide), kE 24 (by decide)⟩
  have W92 : zWk h9 92 := ⟨kE 26 (by decide), r92 10 (by decide) (by decide), kE 31 (by decide), r92 11 (by decide) (by decide), kE 32 (by decide), r92 12 (by decide) (by decide), kE 33 (by decide), r92 13 (by decide) (by decide), kE 34 (by decide), r92 14 (by decide) (by decide), kE 35 (by decide), r92 15 (by decide) (by decide), kE 36 (by decide), r92 16 (by decide) (by decide), kE 37 (by decide), r92 17 (by decide) (by decide), kE 38 (by decide), r92 18 (by decide) (by decide), kE 39 (by decide), r92 19 (by decide) (by decide), kE 40 (by decide), r92 20 (by decide) (by decide), kE 41 (by decide)⟩
  have nt : ∀ t : Int, 0 ≤ t → t < 4 → gR h9 (67 + t.toNat) 0 = none := fun t t0 t1 => by
    have ht : t = 0 ∨ t = 1 ∨ t = 2 ∨ t = 3 := by omega
    obtain rfl | rfl | rfl | rfl := ht
    · rw [show (67 + (0 : Int).toNat) = 67 from rfl, rE 67 (by decide) (by decide) (by decide) (by decide)]; rfl
    · rw [show (67 + (1 : Int).toNat) = 68 from rfl, rE 68 (by decide) (by decide) (by decide) (by decide)]; rfl
    · rw [show (67 + (2 : Int).toNat) = 69 from rfl, rE 69 (by decide) (by decide) (by decide) (by decide)]; rfl
    · rw [show (67 + (3 : Int).toNat) = 70 from rfl, rE 70 (by decide) (by decide) (by decide) (by decide)]; rfl
  have n91 : ∀ m, gR h9 91 m = none := fun m => by rw [rE 91 (by decide) (by decide) (by decide) (by decide)]; rfl
  have V : zIv (fPlain (fun _ => 0) 0) := by
    refine ⟨⟨?_, ?_, fun g g0 g1 => ?_, fun g g0 g1 => ?_⟩, ?_, ?_, ?_, ?_, fun n n0 n1 => ?_, fun n n0 n1 => ?_, fun g g0 g1 => ?_, fun p p0 p1 => ?_, fun p g p0 p1 g0 g1 => ?_, fun p q p0 p1 q0 q1 => ?_, fun s s0 s1 => ?_, fun s s0 s1 => ?_, fun s s0 s1 => ?_, fun s g s0 s1 g0 g1 => ?_, fun s s0 s1 => ?_⟩
    · rw [a0 0 (by decide)]; decide
    · rw [a0 1 (by decide)]; decide
    · rw [a0 _ (by omega)]; decide
    · rw [a0 _ (by omega)]; decide
    · rw [a0 2 (by decide)]; decide
    · rw [a0 3 (by decide)]; decide
    · rw [a0 4 (by decide)]; decide
    · rw [a0 5 (by decide)]; decide
    · rw [a0 0 (by decide)] at n1; omega
    · rw [a0 _ (by omega)]; decide
    · rw [a0 1 (by decide)] at g1; omega
    · rw [a0 2 (by decide)] at p1; omega
    · rw [a0 _ (by omega)]; decide
    · rw [a0 (65 + 15 * p + q) (by omega), a0 (65 + 15 * q + p) (by omega)]
      exact ⟨by decide, by decide, rfl, fun _ => rfl⟩
    · rw [a0 3 (by decide)] at s1; omega
    · rw [a0 3 (by decide)] at s1; omega
    · rw [a0 3 (by decide)] at s1; omega
    · rw [a0 _ (by omega)]
      exact ⟨by decide, by decide, fun _ => rfl⟩
    · rw [a0 3 (by decide)] at s1; omega
  have Pn : zPn h9 75 (fPlain (fun _ => 0) 0) := by
    refine ⟨?_, ?_, ?_, ?_, ?_, ?_, fun n n0 n1 => ?_, fun p g p0 p1 g0 g1 => ?_, fun p q p0 p1 q0 q1 => ?_, fun s s0 s1 => ⟨?_, ?_, ?_, ?_⟩, fun s s0 s1 => ?_, fun s g s0 s1 g0 g1 => ?_⟩
    · rw [z0 75 (by decide) (by decide), a0 _ (by decide)]
    · rw [z0 75 (by decide) (by decide), a0 _ (by decide)]
    · rw [z0 75 (by decide) (by decide), a0 _ (by decide)]
    · rw [z0 75 (by decide) (by decide), a0 _ (by decide)]
    · rw [z0 75 (by decide) (by decide), a0 _ (by decide)]
    · rw [z0 75 (by decide) (by decide), a0 _ (by decide)]
    · rw [z0 (75 + 5) (by decide) (by decide), a0 _ (by omega)]
    · rw [z0 (75 + 6) (by decide) (by decide), a0 _ (by omega)]
    · rw [z0 (75 + 7) (by decide) (by decide), a0 _ (by omega)]
    · rw [z0 (75 + 10) (by decide) (by decide), a0 _ (by omega)]
    · rw [z0 (75 + 11) (by decide) (by decide), a0 _ (by omega)]
    · rw [z0 (75 + 12) (by decide) (by decide), a0 _ (by omega)]
    · rw [z0 (75 + 13) (by decide) (by decide), a0 _ (by omega)]
    · rw [a0 3 (by decide)] at s1; omega
    · rw [z0 (75 + 14) (by decide) (by decide), a0 _ (by omega)]
  have Pw : zPw h9 75 (fPlain (fun _ => 0) 0) (fun _ => 0) := by
    refine ⟨by decide, W75, Pn, ⟨76, r75 6 (by decide) (by decide), kE 10 (by decide), fun k k0 k1 => ?_⟩, ⟨77, r75 7 (by decide) (by decide), kE 11 (by decide), fun k k0 k1 => ?_⟩, ⟨78, r75 8 (by decide) (by decide), kE 12 (by decide), fun k k0 k1 => ?_⟩, ⟨79, r75 9 (by decide) (by decide), kE 13 (by decide), fun k k0 k1 => ?_⟩⟩
    · rw [a0 0 (by decide)] at k1; omega
    · rw [a0 1 (by decide)] at k1; omega
    · rw [a0 2 (by decide)] at k1; omega
    · rw [a0 3 (by decide)] at k1; omega
  have e10 : gI h9 113 10 = 0 := by rw [x113]; rfl
  have e41 : gI h9 113 41 = 0 := by rw [x113]; rfl
  refine ⟨⟨by rw [← hh]; exact zMk_sIA.mpr M2, K, W92, i114, (zM 1 (by decide)).2, Pw, V, ?_, ?_, ?_, fun k k0 k1 => ?_, ?_, ⟨fun t t0 t1 => Or.inl ⟨?_, nt t t0 t1⟩, fun t u t0 t1 u0 u1 ne r hr => ?_⟩, fun j j0 j1 => ?_, ?_, ?_, ⟨?_, fun m m0 m1 => Or.inl ⟨?_, n91 m⟩, fun m m' H H' m0 m1 m2 q1 q2 => ?_, fun m t H r m0 m1 t0 t1 q1 q2 => ?_, fun m m' _ _ _ _ => n91 m'⟩, Or.inl ⟨a6, ?_⟩, fun b b0 b1 => ?_, fun i hi => ?_, by omega, fun b hb => ?_⟩, k0, ?_, ?_, ?_⟩
  · rw [x65, x113]; rfl
  · rw [y65, y113]; exact ⟨rfl, rfl⟩
  · rw [x65, x113]; exact ⟨rfl, by decide, by decide⟩
  · rw [e10] at k1; omega
  · rw [x65, x113]; exact ⟨rfl, rfl⟩
  · have ht : t = 0 ∨ t = 1 ∨ t = 2 ∨ t = 3 := by omega
    have e117 : gI h9 117 = zT4 := by rw [iI 117 (by decide)]; exact (zM 3 (by decide)).1
    rw [e117]
    obtain rfl | rfl | rfl | rfl := ht <;> rfl
  · rw [nt t t0 t1] at hr
    cases hr
  · have e128 : gI h9 128 = fun _ => 0 := by rw [iI 128 (by decide)]; exact (zM 14 (by decide)).1
    rw [e128, z0 112 (by decide) (by decide)]
  · rw [x65, x113]; rfl
  · rw [x65, x113]; rfl
  · rw [e41]; decide
  · rw [e41]; exact m0
  · rw [n91] at q1; cases q1
  · rw [n91] at q1; cases q1
  · rw [rE 74 (by decide) (by decide) (by decide) (by decide)]; rfl
  · rw [bK b (by omega), bR b (by omega), (bI b (by omega)).1, f5 b (Or.inl (by omega)), f7 b (by omega), (f8 b (by omega)).1]
    have n65 : b ≠ gN (zH0 xs L) := by show b ≠ 65; omega
    rw [gK_new_ne n65, gR_new_ne n65, gI_new_ne n65]
    refine ⟨?_, ?_, if_pos b1⟩
    · show (if b < 65 then zK0 L b else (1000, 0)) = _
      rw [if_pos b1]
      have nb : ¬ b = 0 := by omega
      unfold zK0
      rw [if_neg nb, if_neg nb]
    · show (if b < 65 then zI0 xs b else fun _ => 0) = _
      rw [if_pos b1]
      funext j
      have nb : ¬ b = 0 := by omega
      unfold zI0
      rw [if_neg nb, if_neg nb]
  · have hi : i = 0 ∨ i = 1 ∨ i = 2 ∨ i = 3 := by omega
    obtain rfl | rfl | rfl | rfl := hi
    · rw [show 76 + 0 = 66 + 10 from rfl, kE 10 (by decide), show 93 + 0 = 66 + 27 from rfl, kE 27 (by decide)]; decide
    · rw [show 76 + 1 = 66 + 11 from rfl, kE 11 (by decide), show 93 + 1 = 66 + 28 from rfl, kE 28 (by decide)]; decide
    · rw [show 76 + 2 = 66 + 12 from rfl, kE 12 (by decide), show 93 + 2 = 66 + 29 from rfl, kE 29 (by decide)]; decide
    · rw [show 76 + 3 = 66 + 13 from rfl, kE 13 (by decide), show 93 + 3 = 66 + 30 from rfl, kE 30 (by decide)]; decide
  · rw [iN] at hb
    rw [iK, g5 b (Or.inr (by omega)), gK_new_ne (by omega), f5 b (Or.inr (by omega)), gK_new_ne (show b ≠ gN (zH0 xs L) by show b ≠ 65; omega)]
    show (if b < 65 then zK0 L b else (1000, 0)) = _
    rw [if_neg (by omega)]
  · rw [(bI 0 (by decide)).1, (f8 0 (by decide)).1]
    rfl
  · rw [g2, gC_new, f2]
    rfl
  · rw [g3, gS_new, f3]
    rfl
theorem zLaw : ∀ (xs : Nat → Int32) (L : Nat), L ≤ 384 → zCm mL_law 10 [zr (some 0)] (zH0 xs L) (fun r => ∃ h', r = zRv (zi 1) h' ∧ gC h' ≤ 601536 ∧ gS h' ≤ 7250538) := by
  intro xs L hL
  have n0 : gN (zH0 xs L) = 65 := rfl
  have k65 : gK (gNew (zH0 xs L) (0, 0) 25) 65 = (0, 0) := gK_new_eq n0.symm
  simp (disch := (first | (simp only [gK_sI, gK_sJ, gK_sR, gK_sIA, gK_sJA, gR_sI, gR_sJ, gR_sIA, Nat.reduceLeDiff, Nat.reduceEqDiff, Nat.reduceLT, Int.reduceLE, Int.reduceLT, Int.reduceEq, zWt_i, zWt_l, zWt_r, zWt_n, n0, k65] <;> omega) | omega | fail)) only [if_pos, if_neg, wI_id, zLc_lt, zLc_gt, zLc_eq, zLc_le, zLc_ge, Int.reduceEq, Int.reduceLE, Int.reduceLT, Int.reduceNeg, Int.reduceAdd, Int.reduceMul, Int.reduceSub, not_true_eq_false, not_false_eq_true, reduceIte, zPo_v, zPo_n, zPo_t, zKl_i, zKl_r, zKl_n, zKl_l, gK_sI, gK_sJ, gK_sR, gK_sIA, gK_sJA, gR_sI, gR_sJ, gJ_sI, gI_sJ, gI_sR, gJ_sR, gR_sIA, gJ_sIA, Nat.reduceLeDiff, Nat.reduceEqDiff, and_self, and_true, true_and, and_false, false_and, eL_law_in, eL_law_0, eL_law_3, eL_law_4, n0, k65]
  refine cX_init k65 rfl (gR_new_eq n0.symm) (gI_new_eq n0.symm) (gJ_new_eq n0.symm) (fun H F => ?_)
  have nH : gN H = 113 := F.1
  have k113 : gK (gNew H (0, 6) 42) 113 = (0, 6) := gK_new_eq nH.symm
  simp (disch := (first | (simp only [gK_sI, gK_sJ, gK_sR, gK_sIA, gK_sJA, gR_sI, gR_sJ, gR_sIA, Nat.reduceLeDiff, Nat.reduceEqDiff, Nat.reduceLT, Int.reduceLE, Int.reduceLT, Int.reduceEq, zWt_i, zWt_l, zWt_r, zWt_n, nH, k113] <;> omega) | omega | fail)) only [if_pos, if_neg, wI_id, zLc_lt, zLc_gt, zLc_eq, zLc_le, zLc_ge, Int.reduceEq, Int.reduceLE, Int.reduceLT, Int.reduceNeg, Int.reduceAdd, Int.reduceMul, Int.reduceSub, not_true_eq_false, not_false_eq_true, reduceIte, zPo_v, zPo_n, zPo_t, zKl_i, zKl_r, zKl_n, zKl_l, gK_sI, gK_sJ, gK_sR, gK_sIA, gK_sJA, gR_sI, gR_sJ, gJ_sI, gI_sJ, gI_sR, gJ_sR, gR_sIA, gJ_sIA, Nat.reduceLeDiff, Nat.reduceEqDiff, and_self, and_true, true_and, and_false, false_and, eL_law_7, eL_law_8, eL_law_11, eL_law_12, nH, k113]
  refine cM_init k113 (by rw [gN_new, nH]) (fun H2 F2 M2 => ?_)
  obtain ⟨R, hk, hs, hc, hz⟩ := zStart F F2 M2
  simp (disch := (first | (simp only [gK_sI, gK_sJ, gK_sR, gK_sIA, gK_sJA, gR_sI, gR_sJ, gR_sIA, Nat.reduceLeDiff, Nat.reduceEqDiff, Nat.reduceLT, Int.reduceLE, Int.reduceLT, Int.reduceEq, zWt_i, zWt_l, zWt_r, zWt_n] <;> omega) | omega | fail)) only [if_pos, if_neg, wI_id, zLc_lt, zLc_gt, zLc_eq, zLc_le, zLc_ge, Int.reduceEq, Int.reduceLE, Int.reduceLT, Int.reduceNeg, Int.reduceAdd, Int.reduceMul, Int.reduceSub, not_true_eq_false, not_false_eq_true, reduceIte, zPo_v, zPo_n, zPo_t, zKl_i, zKl_r, zKl_n, zKl_l, gK_sI, gK_sJ, gK_sR, gK_sIA, gK_sJA, gR_sI, gR_sJ, gJ_sI, gI_sJ, gI_sR, gJ_sR, gR_sIA, gJ_sIA, Nat.reduceLeDiff, Nat.reduceEqDiff, and_self, and_true, true_and, and_false, false_and, eL_law_15, eL_law_16, eL_law_17]
  exact zLawLoop hL (fun j => toI_in _) (fun h c1 c2 => ⟨h, rfl, c1, c2⟩) 65 0 _ _ _ (by omega) (by decide) (by decide) R hk hs (by show gC H2 + _ ≤ _; omega) (by show gS H2 + _ ≤ _; omega)
