/-! ===== THE REFERENCE, 2: what a load weighs, who is captain ===== -/
set_option maxRecDepth 100000
/-- the weight of the goods of a nation: a is the slot, ld the load -/
def fWg (a ld : Int → Int) (n by9 : Int) (g : Int) : Int := if a (32 + 3 * g) = n ∧ ld g ≠ 0 then (if by9 = 0 then ld g else if by9 = 1 then 1 else ld g * a (33 + 3 * g)) else 0
def fW (a ld : Int → Int) (n by9 : Int) : Int := zSum (a 1).toNat (fWg a ld n by9)
def fMost (a ld : Int → Int) (by9 : Int) : Nat → Int
  | 0 => 0
  | n + 1 => max (fMost a ld by9 n) (fW a ld n by9)
def fSet (a ld : Int → Int) (by9 most : Int) : Nat → Int
  | 0 => 0
  | n + 1 => if fW a ld n by9 = most then zOr (fSet a ld by9 most n) (zShl 1 n) else zOr (fSet a ld by9 most n) 0
def fCap (a ld : Int → Int) (by9 : Int) : Int := if 0 < fMost a ld by9 (a 0).toNat then fSet a ld by9 (fMost a ld by9 (a 0).toNat) (a 0).toNat else 0
def fTons (ld : Int → Int) : Int := zSum 8 ld
/-- the bounds of what a slot tells of goods, and of a load -/
def zGd (a : Int → Int) : Prop := (0 ≤ a 0 ∧ a 0 ≤ 6) ∧ (0 ≤ a 1 ∧ a 1 ≤ 8) ∧ (∀ g, 0 ≤ g → g < 8 → 0 ≤ a (33 + 3 * g) ∧ a (33 + 3 * g) ≤ 99) ∧ (∀ g, 0 ≤ g → g < 8 → 0 ≤ a (34 + 3 * g) ∧ a (34 + 3 * g) ≤ 9)
def zLd (ld : Int → Int) : Prop := ∀ g, 0 ≤ g → g < 8 → 0 ≤ ld g ∧ ld g ≤ 1000
theorem fWg_b {a ld : Int → Int} {n by9 g : Int} (ha : zGd a) (hl : zLd ld) (h0 : 0 ≤ g) (h1 : g < 8) : 0 ≤ fWg a ld n by9 g ∧ fWg a ld n by9 g ≤ 99000 := by
  obtain ⟨l1, l2⟩ := hl g h0 h1
  obtain ⟨w1, w2⟩ := ha.2.2.1 g h0 h1
  have m1 : 0 ≤ ld g * a (33 + 3 * g) := Int.mul_nonneg l1 w1
  have m2 : ld g * a (33 + 3 * g) ≤ 1000 * 99 := Int.mul_le_mul l2 w2 w1 (by omega)
  unfold fWg
  repeat' split
  all_goals omega
theorem fW_part {a ld : Int → Int} {n by9 : Int} (ha : zGd a) (hl : zLd ld) {k : Nat} (hk : k ≤ 8) : 0 ≤ zSum k (fWg a ld n by9) ∧ zSum k (fWg a ld n by9) ≤ 800000 := by
  have h9 := zSum_le (f := fWg a ld n by9) (lo := 0) (hi := 99000) k (fun i h0 h1 => fWg_b ha hl h0 (by omega))
  omega
theorem fW_b {a ld : Int → Int} {n by9 : Int} (ha : zGd a) (hl : zLd ld) : 0 ≤ fW a ld n by9 ∧ fW a ld n by9 ≤ 800000 := by
  have h9 := ha.2.1
  exact fW_part ha hl (by omega)
theorem fMost_b {a ld : Int → Int} {by9 : Int} (ha : zGd a) (hl : zLd ld) : ∀ n : Nat, 0 ≤ fMost a ld by9 n ∧ fMost a ld by9 n ≤ 800000
  | 0 => ⟨Int.le_refl _, by show (0 : Int) ≤ _; omega⟩
  | n + 1 => by
    have h1 := fMost_b (by9 := by9) ha hl n
    have h2 := fW_b (n := n) (by9 := by9) ha hl
    show 0 ≤ max (fMost a ld by9 n) (fW a ld n by9) ∧ max (fMost a ld by9 n) (fW a ld n by9) ≤ _
    omega
/-! sets of few: how many, the least -/
def fPop (s : Int) : Int := s % 2 + s / 2 % 2 + s / 4 % 2 + s / 8 % 2 + s / 16 % 2 + s / 32 % 2
def fLow (s : Int) : Int := if s % 2 = 1 then 0 else if s / 2 % 2 = 1 then 1 else if s / 4 % 2 = 1 then 2 else if s / 8 % 2 = 1 then 3 else if s / 16 % 2 = 1 then 4 else 5
def fOne (s : Int) : Int := if fPop s = 1 then fLow s else -1
theorem fPop_and' : ∀ k : Nat, k < 64 → k ≠ 0 → fPop (zAnd k (k - 1)) + 1 = fPop k ∧ 0 ≤ zAnd k (k - 1) ∧ zAnd k (k - 1) < 64 := by decide +kernel
theorem fPop_and {k : Int} (h0 : 0 ≤ k) (h1 : k < 64) (hk : k ≠ 0) : fPop (zAnd k (k - 1)) + 1 = fPop k ∧ 0 ≤ zAnd k (k - 1) ∧ zAnd k (k - 1) < 64 := by
  have h9 := fPop_and' k.toNat (by omega) (by omega)
  rw [Int.toNat_of_nonneg h0] at h9
  exact h9
theorem fPop_b {k : Int} : 0 ≤ fPop k ∧ fPop k ≤ 6 := by
  unfold fPop
  omega
theorem fPop_0' : ∀ k : Nat, k < 64 → (fPop k = 0 ↔ (k : Int) = 0) := by decide +kernel
theorem fPop_0 {k : Int} (h0 : 0 ≤ k) (h1 : k < 64) : fPop k = 0 ↔ k = 0 := by
  have h9 := fPop_0' k.toNat (by omega)
  rw [Int.toNat_of_nonneg h0] at h9
  exact h9
theorem fLow_lt' : ∀ s : Nat, s < 64 → ∀ i : Nat, i < 6 → ((i : Int) < fLow s → zAnd (zShr s i) 1 = 0) ∧ (s ≠ 0 → (i : Int) = fLow s → zAnd (zShr s i) 1 = 1) := by decide +kernel
theorem fLow_b {s : Int} : 0 ≤ fLow s ∧ fLow s < 6 := by
  unfold fLow
  repeat' split
  all_goals omega
theorem fLow_lt {s i : Int} (h0 : 0 ≤ s) (h1 : s < 64) (hi : 0 ≤ i) (h : i < fLow s) : zAnd (zShr s i) 1 = 0 := by
  have hb := fLow_b (s := s)
  have h9 := (fLow_lt' s.toNat (by omega) i.toNat (by omega)).1
  rw [Int.toNat_of_nonneg h0, Int.toNat_of_nonneg hi] at h9
  exact h9 h
theorem fLow_eq {s : Int} (h0 : 0 ≤ s) (h1 : s < 64) (hs : s ≠ 0) : zAnd (zShr s (fLow s)) 1 = 1 := by
  have hb := fLow_b (s := s)
  have h9 := (fLow_lt' s.toNat (by omega) (fLow s).toNat (by omega)).2
  rw [Int.toNat_of_nonneg h0, Int.toNat_of_nonneg hb.1] at h9
  exact h9 (by omega) rfl
theorem fOr_b' : ∀ s : Nat, s < 64 → ∀ i : Nat, i < 6 → 0 ≤ zOr s (zShl 1 i) ∧ zOr s (zShl 1 i) < 64 ∧ zOr s 0 = s := by decide +kernel
theorem fOr_b {s i : Int} (h0 : 0 ≤ s) (h1 : s < 64) (hi : 0 ≤ i) (h6 : i < 6) : 0 ≤ zOr s (zShl 1 i) ∧ zOr s (zShl 1 i) < 64 ∧ zOr s 0 = s := by
  have h9 := fOr_b' s.toNat (by omega) i.toNat (by omega)
  rw [Int.toNat_of_nonneg h0, Int.toNat_of_nonneg hi] at h9
  exact h9
theorem fSet_b {a ld : Int → Int} {by9 most : Int} : ∀ n : Nat, n ≤ 6 → 0 ≤ fSet a ld by9 most n ∧ fSet a ld by9 most n < 64
  | 0, _ => ⟨Int.le_refl _, by show (0 : Int) < _; omega⟩
  | n + 1, hn => by
    have ih := fSet_b (a := a) (ld := ld) (by9 := by9) (most := most) n (by omega)
    have h9 := fOr_b ih.1 ih.2 (i := n) (by omega) (by omega)
    show 0 ≤ (if fW a ld n by9 = most then zOr (fSet a ld by9 most n) (zShl 1 n) else zOr (fSet a ld by9 most n) 0) ∧ (if fW a ld n by9 = most then zOr (fSet a ld by9 most n) (zShl 1 n) else zOr (fSet a ld by9 most n) 0) < 64
    split
    · exact ⟨h9.1, h9.2.1⟩
    · rw [h9.2.2]
      exact ih
theorem fCap_b {a ld : Int → Int} {by9 : Int} (ha : zGd a) : 0 ≤ fCap a ld by9 ∧ fCap a ld by9 < 64 := by
  unfold fCap
  have h9 := ha.1
  split
  · exact fSet_b _ (by omega)
  · omega
theorem fOne_b {s : Int} : -1 ≤ fOne s ∧ fOne s < 6 := by
  have hb := fLow_b (s := s)
  unfold fOne
  split <;> omega
section M2
variable {d : Nat} {h : zHp} {Q : zRs → Prop}
theorem cM_tons (P : zMk h) (hl : zLd (gI h 122)) : zCm mX6_tons d [zr (some 113)] h Q ↔ Q (zRv (zi (fTons (gI h 122))) h) := by
  refine zCm_iff (fun Q hQ => ?_)
  simp (disch := (first | (simp only [gK_sI, gK_sJ, gK_sR, gK_sIA, gK_sJA, gR_sI, gR_sJ, gR_sIA, Nat.reduceLeDiff, Nat.reduceEqDiff, Nat.reduceLT, Int.reduceLE, Int.reduceLT, Int.reduceEq, zWt_i, zWt_l, zWt_r, zWt_n, P, zMkk P, zMr24 P, zMk24 P] <;> omega) | omega | fail)) only [if_pos, if_neg, wI_id, zLc_lt, zLc_gt, zLc_eq, zLc_le, zLc_ge, Int.reduceEq, Int.reduceLE, Int.reduceLT, Int.reduceNeg, Int.reduceAdd, Int.reduceMul, Int.reduceSub, not_true_eq_false, not_false_eq_true, reduceIte, zPo_v, zPo_n, zPo_t, zKl_i, zKl_r, zKl_n, zKl_l, gK_sI, gK_sJ, gK_sR, gK_sIA, gK_sJA, gR_sI, gR_sJ, gJ_sI, gI_sJ, gI_sR, gJ_sR, gR_sIA, gJ_sIA, Nat.reduceLeDiff, Nat.reduceEqDiff, eX6_tons_0, eX6_tons_1, eX6_tons_2, eX6_tons_3, eX6_tons_5, eX6_tons_7, eX6_tons_10, eX6_tons_11, eX6_tons_12, eX6_tons_15, eX6_tons_16, eX6_tons_17, eX6_tons_18, eX6_tons_19, eX6_tons_22, eX6_tons_25, eX6_tons_26, eX6_tons_in]
  refine zLoop 8 (fun i ls h' => h = h' ∧ 0 ≤ i ∧ ls = [some (zr (some 113)), some (zi (zSum i.toNat (gI h 122))), some (zi i)]) ?_ ?_ 0 _ _ (by omega) ⟨rfl, by omega, rfl⟩
  · rintro i _ _ hi ⟨rfl, hi0, rfl⟩ k
    obtain ⟨l1, l2⟩ := hl i hi0 hi
    have p9 := zSum_le (f := gI h 122) (lo := 0) (hi := 1000) i.toNat (fun j h0 h1 => hl j h0 (by omega))
    rw [eX6_tons_4]
    simp (disch := (first | (simp only [gK_sI, gK_sJ, gK_sR, gK_sIA, gK_sJA, gR_sI, gR_sJ, gR_sIA, Nat.reduceLeDiff, Nat.reduceEqDiff, Nat.reduceLT, Int.reduceLE, Int.reduceLT, Int.reduceEq, zWt_i, zWt_l, zWt_r, zWt_n, P, zMkk P, zMr24 P, zMk24 P] <;> omega) | omega | fail)) only [if_pos, if_neg, wI_id, zLc_lt, zLc_gt, zLc_eq, zLc_le, zLc_ge, Int.reduceEq, Int.reduceLE, Int.reduceLT, Int.reduceNeg, Int.reduceAdd, Int.reduceMul, Int.reduceSub, not_true_eq_false, not_false_eq_true, reduceIte, zPo_v, zPo_n, zPo_t, zKl_i, zKl_r, zKl_n, zKl_l, gK_sI, gK_sJ, gK_sR, gK_sIA, gK_sJA, gR_sI, gR_sJ, gJ_sI, gI_sJ, gI_sR, gJ_sR, gR_sIA, gJ_sIA, Nat.reduceLeDiff, Nat.reduceEqDiff, eX6_tons_0, eX6_tons_1, eX6_tons_2, eX6_tons_3, eX6_tons_5, eX6_tons_7, eX6_tons_10, eX6_tons_11, eX6_tons_12, eX6_tons_15, eX6_tons_16, eX6_tons_17, eX6_tons_18, eX6_tons_19, eX6_tons_22, eX6_tons_25, eX6_tons_26, eX6_tons_in, P, zMkk P, zMr24 P, zMk24 P]
    exact k _ _ ⟨rfl, by omega, by rw [zSum_next hi0]⟩
  · rintro _ _ ⟨rfl, hi0, rfl⟩
    rw [eX6_tons_4]
    simp (disch := (first | (simp only [gK_sI, gK_sJ, gK_sR, gK_sIA, gK_sJA, gR_sI, gR_sJ, gR_sIA, Nat.reduceLeDiff, Nat.reduceEqDiff, Nat.reduceLT, Int.reduceLE, Int.reduceLT, Int.reduceEq, zWt_i, zWt_l, zWt_r, zWt_n, P, zMkk P, zMr24 P, zMk24 P] <;> omega) | omega | fail)) only [if_pos, if_neg, wI_id, zLc_lt, zLc_gt, zLc_eq, zLc_le, zLc_ge, Int.reduceEq, Int.reduceLE, Int.reduceLT, Int.reduceNeg, Int.reduceAdd, Int.reduceMul, Int.reduceSub, not_true_eq_false, not_false_eq_true, reduceIte, zPo_v, zPo_n, zPo_t, zKl_i, zKl_r, zKl_n, zKl_l, gK_sI, gK_sJ, gK_sR, gK_sIA, gK_sJA, gR_sI, gR_sJ, gJ_sI, gI_sJ, gI_sR, gJ_sR, gR_sIA, gJ_sIA, Nat.reduceLeDiff, Nat.reduceEqDiff, eX6_tons_0, eX6_tons_1, eX6_tons_2, eX6_tons_3, eX6_tons_5, eX6_tons_7, eX6_tons_10, eX6_tons_11, eX6_tons_12, eX6_tons_15, eX6_tons_16, eX6_tons_17, eX6_tons_18, eX6_tons_19, eX6_tons_22, eX6_tons_25, eX6_tons_26, eX6_tons_in]
    exact hQ
theorem cM_weightOf {n y : Int} (P : zMk h) (ha : zGd (gI h 114)) (hl : zLd (gI h 122)) : zCm mX6_weightOf d [zr (some 113), zi n, zi y] h Q ↔ Q (zRv (zi (fW (gI h 114) (gI h 122) n y)) h) := by
  refine zCm_iff (fun Q hQ => ?_)
  obtain ⟨a0, ⟨a1, a2⟩, a3, a4⟩ := id ha
  simp (disch := (first | (simp only [gK_sI, gK_sJ, gK_sR, gK_sIA, gK_sJA, gR_sI, gR_sJ, gR_sIA, Nat.reduceLeDiff, Nat.reduceEqDiff, Nat.reduceLT, Int.reduceLE, Int.reduceLT, Int.reduceEq, zWt_i, zWt_l, zWt_r, zWt_n, P, zMkk P, zMr0 P, zMk0 P, zMr24 P, zMk24 P] <;> omega) | omega | fail)) only [if_pos, if_neg, wI_id, zLc_lt, zLc_gt, zLc_eq, zLc_le, zLc_ge, Int.reduceEq, Int.reduceLE, Int.reduceLT, Int.reduceNeg, Int.reduceAdd, Int.reduceMul, Int.reduceSub, not_true_eq_false, not_false_eq_true, reduceIte, zPo_v, zPo_n, zPo_t, zKl_i, zKl_r, zKl_n, zKl_l, gK_sI, gK_sJ, gK_sR, gK_sIA, gK_sJA, gR_sI, gR_sJ, gJ_sI, gI_sJ, gI_sR, gJ_sR, gR_sIA, gJ_sIA, Nat.reduceLeDiff, Nat.reduceEqDiff, eX6_weightOf_0, eX6_weightOf_1, eX6_weightOf_2, eX6_weightOf_3, eX6_weightOf_7, eX6_weightOf_8, eX6_weightOf_11, eX6_weightOf_12, eX6_weightOf_13, eX6_weightOf_16, eX6_weightOf_17, eX6_weightOf_20, eX6_weightOf_22, eX6_weightOf_25, eX6_weightOf_26, eX6_weightOf_27, eX6_weightOf_30, eX6_weightOf_31, eX6_weightOf_34, eX6_weightOf_36, eX6_weightOf_37, eX6_weightOf_40, eX6_weightOf_43, eX6_weightOf_44, eX6_weightOf_45, eX6_weightOf_48, eX6_weightOf_49, eX6_weightOf_52, eX6_weightOf_54, eX6_weightOf_55, eX6_weightOf_58, eX6_weightOf_59, eX6_weightOf_60, eX6_weightOf_63, eX6_weightOf_64, eX6_weightOf_67, eX6_weightOf_68, eX6_weightOf_71, eX6_weightOf_73, eX6_weightOf_74, eX6_weightOf_75, eX6_weightOf_78, eX6_weightOf_80, eX6_weightOf_83, eX6_weightOf_84, eX6_weightOf_85, eX6_weightOf_86, eX6_weightOf_87, eX6_weightOf_88, eX6_weightOf_89, eX6_weightOf_92, eX6_weightOf_95, eX6_weightOf_96, eX6_weightOf_in]
  refine zLoop (gI h 114 1) (fun i ls h' => h = h' ∧ 0 ≤ i ∧ ls = [some (zr (some 113)), some (zi n), some (zi y), some (zi (zSum i.toNat (fWg (gI h 114) (gI h 122) n y))), some (zi i)]) ?_ ?_ 0 _ _ a1 ⟨rfl, by omega, rfl⟩
  · rintro i _ _ hi ⟨rfl, hi0, rfl⟩ k
    obtain ⟨g1, g2⟩ := a3 i hi0 (by omega)
    obtain ⟨l1, l2⟩ := hl i hi0 (by omega)
    have m1 : 0 ≤ gI h 122 i * gI h 114 (33 + 3 * i) := Int.mul_nonneg l1 g1
    have m2 : gI h 122 i * gI h 114 (33 + 3 * i) ≤ 1000 * 99 := Int.mul_le_mul l2 g2 g1 (by omega)
    have p9 := fW_part (n := n) (by9 := y) ha hl (k := i.toNat) (by omega)
    have k2 : ∀ v, v = zSum i.toNat (fWg (gI h 114) (gI h 122) n y) + fWg (gI h 114) (gI h 122) n y i → zEv mX6_weightOf d 5 [some (Sum.inr (Sum.inr (some 113))), some (Sum.inl n), some (Sum.inl y), some (Sum.inl v), some (Sum.inl (i + 1))] [] h Q := fun v e => k _ _ ⟨rfl, by omega, by rw [zSum_next hi0, e]⟩
    have e1 : 32 + 3 * i + 1 = 33 + 3 * i := by omega
    rw [eX6_weightOf_5]
    simp (disch := (first | (simp only [gK_sI, gK_sJ, gK_sR, gK_sIA, gK_sJA, gR_sI, gR_sJ, gR_sIA, Nat.reduceLeDiff, Nat.reduceEqDiff, Nat.reduceLT, Int.reduceLE, Int.reduceLT, Int.reduceEq, zWt_i, zWt_l, zWt_r, zWt_n, P, zMkk P, zMr0 P, zMk0 P, zMr24 P, zMk24 P] <;> omega) | omega | fail)) only [if_pos, if_neg, wI_id, zLc_lt, zLc_gt, zLc_eq, zLc_le, zLc_ge, Int.reduceEq, Int.reduceLE, Int.reduceLT, Int.reduceNeg, Int.reduceAdd, Int.reduceMul, Int.reduceSub, not_true_eq_false, not_false_eq_true, reduceIte, zPo_v, zPo_n, zPo_t, zKl_i, zKl_r, zKl_n, zKl_l, gK_sI, gK_sJ, gK_sR, gK_sIA, gK_sJA, gR_sI, gR_sJ, gJ_sI, gI_sJ, gI_sR, gJ_sR, gR_sIA, gJ_sIA, Nat.reduceLeDiff, Nat.reduceEqDiff, eX6_weightOf_0, eX6_weightOf_1, eX6_weightOf_2, eX6_weightOf_3, eX6_weightOf_7, eX6_weightOf_8, eX6_weightOf_11, eX6_weightOf_12, eX6_weightOf_13, eX6_weightOf_16, eX6_weightOf_17, eX6_weightOf_20, eX6_weightOf_22, eX6_weightOf_25, eX6_weightOf_26, eX6_weightOf_27, eX6_weightOf_30, eX6_weightOf_31, eX6_weightOf_34, eX6_weightOf_36, eX6_weightOf_37, eX6_weightOf_40, eX6_weightOf_43, eX6_weightOf_44, eX6_weightOf_45, eX6_weightOf_48, eX6_weightOf_49, eX6_weightOf_52, eX6_weightOf_54, eX6_weightOf_55, eX6_weightOf_58, eX6_weightOf_59, eX6_weightOf_60, eX6_weightOf_63, eX6_weightOf_64, eX6_weightOf_67, eX6_weightOf_68, eX6_weightOf_71, eX6_weightOf_73, eX6_weightOf_74, eX6_weightOf_75, eX6_weightOf_78, eX6_weightOf_80, eX6_weightOf_83, eX6_weightOf_84, eX6_weightOf_85, eX6_weightOf_86, eX6_weightOf_87, eX6_weightOf_88, eX6_weightOf_89, eX6_weightOf_92, eX6_weightOf_95, eX6_weightOf_96, eX6_weightOf_in, P, zMkk P, zMr0 P, zMk0 P, zMr24 P, zMk24 P, cM_goodRow, e1]
    (repeat' split) <;> (apply k2; unfold fWg; (repeat' split) <;> omega)
  · rintro _ _ ⟨rfl, hi0, rfl⟩
    rw [eX6_weightOf_5]
    simp (disch := (first | (simp only [gK_sI, gK_sJ, gK_sR, gK_sIA, gK_sJA, gR_sI, gR_sJ, gR_sIA, Nat.reduceLeDiff, Nat.reduceEqDiff, Nat.reduceLT, Int.reduceLE, Int.reduceLT, Int.reduceEq, zWt_i, zWt_l, zWt_r, zWt_n, P, zMkk P, zMr0 P, zMk0 P, zMr24 P, zMk24 P] <;> omega) | omega | fail)) only [if_pos, if_neg, wI_id, zLc_lt, zLc_gt, zLc_eq, zLc_le, zLc_ge, Int.reduceEq, Int.reduceLE, Int.reduceLT, Int.reduceNeg, Int.reduceAdd, Int.reduceMul, Int.reduceSub, not_true_eq_false, not_false_eq_true, reduceIte, zPo_v, zPo_n, zPo_t, zKl_i, zKl_r, zKl_n, zKl_l, gK_sI, gK_sJ, gK_sR, gK_sIA, gK_sJA, gR_sI, gR_sJ, gJ_sI, gI_sJ, gI_sR, gJ_sR, gR_sIA, gJ_sIA, Nat.reduceLeDiff, Nat.reduceEqDiff, eX6_weightOf_0, eX6_weightOf_1, eX6_weightOf_2, eX6_weightOf_3, eX6_weightOf_7, eX6_weightOf_8, eX6_weightOf_11, eX6_weightOf_12, eX6_weightOf_13, eX6_weightOf_16, eX6_weightOf_17, eX6_weightOf_20, eX6_weightOf_22, eX6_weightOf_25, eX6_weightOf_26, eX6_weightOf_27, eX6_weightOf_30, eX6_weightOf_31, eX6_weightOf_34, eX6_weightOf_36, eX6_weightOf_37, eX6_weightOf_40, eX6_weightOf_43, eX6_weightOf_44, eX6_weightOf_45, eX6_weightOf_48, eX6_weightOf_49, eX6_weightOf_52, eX6_weightOf_54, eX6_weightOf_55, eX6_weightOf_58, eX6_weightOf_59, eX6_weightOf_60, eX6_weightOf_63, eX6_weightOf_64, eX6_weightOf_67, eX6_weightOf_68, eX6_weightOf_71, eX6_weightOf_73, eX6_weightOf_74, eX6_weightOf_75, eX6_weightOf_78, eX6_weightOf_80, eX6_weightOf_83, eX6_weightOf_84, eX6_weightOf_85, eX6_weightOf_86, eX6_weightOf_87, eX6_weightOf_88, eX6_weightOf_89, eX6_weightOf_92, eX6_weightOf_95, eX6_weightOf_96, eX6_weightOf_in, P, zMkk P, zMr0 P, zMk0 P, zMr24 P, zMk24 P]
    exact hQ
theorem cM_captainsBy {y : Int} (P : zMk h) (ha : zGd (gI h 114)) (hl : zLd (gI h 122)) : zCm mX6_captainsBy d [zr (some 113), zi y] h Q ↔ Q (zRv (zi (fCap (gI h 114) (gI h 122) y)) h) := by
  refine zCm_iff (fun Q hQ => ?_)
  obtain ⟨⟨a0, a00⟩, ⟨a1, a2⟩, a3, a4⟩ := id ha
  simp (disch := (first | (simp only [gK_sI, gK_sJ, gK_sR, gK_sIA, gK_sJA, gR_sI, gR_sJ, gR_sIA, Nat.reduceLeDiff, Nat.reduceEqDiff, Nat.reduceLT, Int.reduceLE, Int.reduceLT, Int.reduceEq, zWt_i, zWt_l, zWt_r, zWt_n, P, zMkk P, zMr0 P, zMk0 P] <;> omega) | omega | fail)) only [if_pos, if_neg, wI_id, zLc_lt, zLc_gt, zLc_eq, zLc_le, zLc_ge, Int.reduceEq, Int.reduceLE, Int.reduceLT, Int.reduceNeg, Int.reduceAdd, Int.reduceMul, Int.reduceSub, not_true_eq_false, not_false_eq_true, reduceIte, zPo_v, zPo_n, zPo_t, zKl_i, zKl_r, zKl_n, zKl_l, gK_sI, gK_sJ, gK_sR, gK_sIA, gK_sJA, gR_sI, gR_sJ, gJ_sI, gI_sJ, gI_sR, gJ_sR, gR_sIA, gJ_sIA, Nat.reduceLeDiff, Nat.reduceEqDiff, eX6_captainsBy_0, eX6_captainsBy_1, eX6_captainsBy_2, eX6_captainsBy_3, eX6_captainsBy_5, eX6_captainsBy_6, eX6_captainsBy_9, eX6_captainsBy_10, eX6_captainsBy_11, eX6_captainsBy_14, eX6_captainsBy_15, eX6_captainsBy_16, eX6_captainsBy_17, eX6_captainsBy_18, eX6_captainsBy_21, eX6_captainsBy_24, eX6_captainsBy_25, eX6_captainsBy_28, eX6_captainsBy_31, eX6_captainsBy_32, eX6_captainsBy_33, eX6_captainsBy_34, eX6_captainsBy_38, eX6_captainsBy_39, eX6_captainsBy_42, eX6_captainsBy_43, eX6_captainsBy_44, eX6_captainsBy_47, eX6_captainsBy_48, eX6_captainsBy_51, eX6_captainsBy_52, eX6_captainsBy_53, eX6_captainsBy_55, eX6_captainsBy_56, eX6_captainsBy_59, eX6_captainsBy_60, eX6_captainsBy_63, eX6_captainsBy_64, eX6_captainsBy_66, eX6_captainsBy_67, eX6_captainsBy_70, eX6_captainsBy_71, eX6_captainsBy_72, eX6_captainsBy_73, eX6_captainsBy_76, eX6_captainsBy_79, eX6_captainsBy_80, eX6_captainsBy_in]
  refine zLoop (gI h 114 0) (fun i ls h' => h = h' ∧ 0 ≤ i ∧ ls = [some (zr (some 113)), some (zi y), some (zi (fMost (gI h 114) (gI h 122) y i.toNat)), some (zi i), none]) ?_ ?_ 0 _ _ a0 ⟨rfl, by omega, rfl⟩
  · rintro i _ _ hi ⟨rfl, hi0, rfl⟩ k
    rw [eX6_captainsBy_4]
    simp (disch := (first | (simp only [gK_sI, gK_sJ, gK_sR, gK_sIA, gK_sJA, gR_sI, gR_sJ, gR_sIA, Nat.reduceLeDiff, Nat.reduceEqDiff, Nat.reduceLT, Int.reduceLE, Int.reduceLT, Int.reduceEq, zWt_i, zWt_l, zWt_r, zWt_n, P, zMkk P, zMr0 P, zMk0 P] <;> omega) | omega | fail)) only [if_pos, if_neg, wI_id, zLc_lt, zLc_gt, zLc_eq, zLc_le, zLc_ge, Int.reduceEq, Int.reduceLE, Int.reduceLT, Int.reduceNeg, Int.reduceAdd, Int.reduceMul, Int.reduceSub, not_true_eq_false, not_false_eq_true, reduceIte, zPo_v, zPo_n, zPo_t, zKl_i, zKl_r, zKl_n, zKl_l, gK_sI, gK_sJ, gK_sR, gK_sIA, gK_sJA, gR_sI, gR_sJ, gJ_sI, gI_sJ, gI_sR, gJ_sR, gR_sIA, gJ_sIA, Nat.reduceLeDiff, Nat.reduceEqDiff, eX6_captainsBy_0, eX6_captainsBy_1, eX6_captainsBy_2, eX6_captainsBy_3, eX6_captainsBy_5, eX6_captainsBy_6, eX6_captainsBy_9, eX6_captainsBy_10, eX6_captainsBy_11, eX6_captainsBy_14, eX6_captainsBy_15, eX6_captainsBy_16, eX6_captainsBy_17, eX6_captainsBy_18, eX6_captainsBy_21, eX6_captainsBy_24, eX6_captainsBy_25, eX6_captainsBy_28, eX6_captainsBy_31, eX6_captainsBy_32, eX6_captainsBy_33, eX6_captainsBy_34, eX6_captainsBy_38, eX6_captainsBy_39, eX6_captainsBy_42, eX6_captainsBy_43, eX6_captainsBy_44, eX6_captainsBy_47, eX6_captainsBy_48, eX6_captainsBy_51, eX6_captainsBy_52, eX6_captainsBy_53, eX6_captainsBy_55, eX6_captainsBy_56, eX6_captainsBy_59, eX6_captainsBy_60, eX6_captainsBy_63, eX6_captainsBy_64, eX6_captainsBy_66, eX6_captainsBy_67, eX6_captainsBy_70, eX6_captainsBy_71, eX6_captainsBy_72, eX6_captainsBy_73, eX6_captainsBy_76, eX6_captainsBy_79, eX6_captainsBy_80, eX6_captainsBy_in, P, zMkk P, zMr0 P, zMk0 P, cM_weightOf P ha hl]
    refine k _ _ ⟨rfl, by omega, ?_⟩
    have e : (i + 1).toNat = i.toNat + 1 := by omega
    rw [e]
    show _ = [some (zr (some 113)), some (zi y), some (zi (max (fMost (gI h 114) (gI h 122) y i.toNat) (fW (gI h 114) (gI h 122) (i.toNat : Int) y))), some (zi (i + 1)), none]
    rw [Int.toNat_of_nonneg hi0, Int.max_def]
    congr 5
    split <;> split <;> omega
  · rintro _ _ ⟨rfl, hi0, rfl⟩
    have hm := fMost_b (by9 := y) ha hl (gI h 114 0).toNat
    rw [eX6_captainsBy_4]
    simp (disch := (first | (simp only [gK_sI, gK_sJ, gK_sR, gK_sIA, gK_sJA, gR_sI, gR_sJ, gR_sIA, Nat.reduceLeDiff, Nat.reduceEqDiff, Nat.reduceLT, Int.reduceLE, Int.reduceLT, Int.reduceEq, zWt_i, zWt_l, zWt_r, zWt_n, P, zMkk P, zMr0 P, zMk0 P] <;> omega) | omega | fail)) only [if_pos, if_neg, wI_id, zLc_lt, zLc_gt, zLc_eq, zLc_le, zLc_ge, Int.reduceEq, Int.reduceLE, Int.reduceLT, Int.reduceNeg, Int.reduceAdd, Int.reduceMul, Int.reduceSub, not_true_eq_false, not_false_eq_true, reduceIte, zPo_v, zPo_n, zPo_t, zKl_i, zKl_r, zKl_n, zKl_l, gK_sI, gK_sJ, gK_sR, gK_sIA, gK_sJA, gR_sI, gR_sJ, gJ_sI, gI_sJ, gI_sR, gJ_sR, gR_sIA, gJ_sIA, Nat.reduceLeDiff, Nat.reduceEqDiff, eX6_captainsBy_0, eX6_captainsBy_1, eX6_captainsBy_2, eX6_captainsBy_3, eX6_captainsBy_5, eX6_captainsBy_6, eX6_captainsBy_9, eX6_captainsBy_10, eX6_captainsBy_11, eX6_captainsBy_14, eX6_captainsBy_15, eX6_captainsBy_16, eX6_captainsBy_17, eX6_captainsBy_18, eX6_captainsBy_21, eX6_captainsBy_24, eX6_captainsBy_25, eX6_captainsBy_28, eX6_captainsBy_31, eX6_captainsBy_32, eX6_captainsBy_33, eX6_captainsBy_34, eX6_captainsBy_38, eX6_captainsBy_39, eX6_captainsBy_42, eX6_captainsBy_43, eX6_captainsBy_44, eX6_captainsBy_47, eX6_captainsBy_48, eX6_captainsBy_51, eX6_captainsBy_52, eX6_captainsBy_53, eX6_captainsBy_55, eX6_captainsBy_56, eX6_captainsBy_59, eX6_captainsBy_60, eX6_captainsBy_63, eX6_captainsBy_64, eX6_captainsBy_66, eX6_captainsBy_67, eX6_captainsBy_70, eX6_captainsBy_71, eX6_captainsBy_72, eX6_captainsBy_73, eX6_captainsBy_76, eX6_captainsBy_79, eX6_captainsBy_80, eX6_captainsBy_in, P, zMkk P, zMr0 P, zMk0 P]
    generalize hmo : fMost (gI h 114) (gI h 122) y (gI h 114 0).toNat = mo at hm ⊢
    by_cases hpos : 0 < mo
    · refine zLoop (gI h 114 0) (fun i ls h' => h = h' ∧ 0 ≤ i ∧ ls = [some (zr (some 113)), some (zi y), some (zi mo), some (zi (fSet (gI h 114) (gI h 122) y mo i.toNat)), some (zi i)]) ?_ ?_ 0 _ _ a0 ⟨rfl, by omega, rfl⟩
      · rintro i _ _ hi ⟨rfl, hi0, rfl⟩ k
        have k2 : ∀ v, v = fSet (gI h 114) (gI h 122) y mo (i.toNat + 1) → zEv mX6_captainsBy d 36 [some (Sum.inr (Sum.inr (some 113))), some (Sum.inl y), some (Sum.inl mo), some (Sum.inl v), some (Sum.inl (i + 1))] [] h Q := fun v e => k _ _ ⟨rfl, by omega, by
          have e9 : (i + 1).toNat = i.toNat + 1 := by omega
          rw [e9, e]⟩
        rw [eX6_captainsBy_36]
        simp (disch := (first | (simp only [gK_sI, gK_sJ, gK_sR, gK_sIA, gK_sJA, gR_sI, gR_sJ, gR_sIA, Nat.reduceLeDiff, Nat.reduceEqDiff, Nat.reduceLT, Int.reduceLE, Int.reduceLT, Int.reduceEq, zWt_i, zWt_l, zWt_r, zWt_n, P, zMkk P, zMr0 P, zMk0 P] <;> omega) | omega | fail)) only [if_pos, if_neg, wI_id, zLc_lt, zLc_gt, zLc_eq, zLc_le, zLc_ge, Int.reduceEq, Int.reduceLE, Int.reduceLT, Int.reduceNeg, Int.reduceAdd, Int.reduceMul, Int.reduceSub, not_true_eq_false, not_false_eq_true, reduceIte, zPo_v, zPo_n, zPo_t, zKl_i, zKl_r, zKl_n, zKl_l, gK_sI, gK_sJ, gK_sR, gK_sIA, gK_sJA, gR_sI, gR_sJ, gJ_sI, gI_sJ, gI_sR, gJ_sR, gR_sIA, gJ_sIA, Nat.reduceLeDiff, Nat.reduceEqDiff, eX6_captainsBy_0, eX6_captainsBy_1, eX6_captainsBy_2, eX6_captainsBy_3, eX6_captainsBy_5, eX6_captainsBy_6, eX6_captainsBy_9, eX6_captainsBy_10, eX6_captainsBy_11, eX6_captainsBy_14, eX6_captainsBy_15, eX6_captainsBy_16, eX6_captainsBy_17, eX6_captainsBy_18, eX6_captainsBy_21, eX6_captainsBy_24, eX6_captainsBy_25, eX6_captainsBy_28, eX6_captainsBy_31, eX6_captainsBy_32, eX6_captainsBy_33, eX6_captainsBy_34, eX6_captainsBy_38, eX6_captainsBy_39, eX6_captainsBy_42, eX6_captainsBy_43, eX6_captainsBy_44, eX6_captainsBy_47, eX6_captainsBy_48, eX6_captainsBy_51, eX6_captainsBy_52, eX6_captainsBy_53, eX6_captainsBy_55, eX6_captainsBy_56, eX6_captainsBy_59, eX6_captainsBy_60, eX6_captainsBy_63, eX6_captainsBy_64, eX6_captainsBy_66, eX6_captainsBy_67, eX6_captainsBy_70, eX6_captainsBy_71, eX6_captainsBy_72, eX6_captainsBy_73, eX6_captainsBy_76, eX6_captainsBy_79, eX6_captainsBy_80, eX6_captainsBy_in, P, zMkk P, zMr0 P, zMk0 P, cM_weightOf P ha hl]
        split
        · rename_i hne
          apply k2
          show _ = if fW (gI h 114) (gI h 122) (i.toNat : Int) y = mo then _ else _
          rw [Int.toNat_of_nonneg hi0, if_neg hne]
        · rename_i hne
          apply k2
          show _ = if fW (gI h 114) (gI h 122) (i.toNat : Int) y = mo then _ else _
          rw [Int.toNat_of_nonneg hi0, if_pos (by omega)]
      · rintro _ _ ⟨rfl, hi0, rfl⟩
        rw [eX6_captainsBy_36]
        simp (disch := (first | (simp only [gK_sI, gK_sJ, gK_sR, gK_sIA, gK_sJA, gR_sI, gR_sJ, gR_sIA, Nat.reduceLeDiff, Nat.reduceEqDiff, Nat.reduceLT, Int.reduceLE, Int.reduceLT, Int.reduceEq, zWt_i, zWt_l, zWt_r, zWt_n, P, zMkk P, zMr0 P, zMk0 P] <;> omega) | omega | fail)) only [if_pos, if_neg, wI_id, zLc_lt, zLc_gt, zLc_eq, zLc_le, zLc_ge, Int.reduceEq, Int.reduceLE, Int.reduceLT, Int.reduceNeg, Int.reduceAdd, Int.reduceMul, Int.reduceSub, not_true_eq_false, not_false_eq_true, reduceIte, zPo_v, zPo_n, zPo_t, zKl_i, zKl_r, zKl_n, zKl_l, gK_sI, gK_sJ, gK_sR, gK_sIA, gK_sJA, gR_sI, gR_sJ, gJ_sI, gI_sJ, gI_sR, gJ_sR, gR_sIA, gJ_sIA, Nat.reduceLeDiff, Nat.reduceEqDiff, eX6_captainsBy_0, eX6_captainsBy_1, eX6_captainsBy_2, eX6_captainsBy_3, eX6_captainsBy_5, eX6_captainsBy_6, eX6_captainsBy_9, eX6_captainsBy_10, eX6_captainsBy_11, eX6_captainsBy_14, eX6_captainsBy_15, eX6_captainsBy_16, eX6_captainsBy_17, eX6_captainsBy_18, eX6_captainsBy_21, eX6_captainsBy_24, eX6_captainsBy_25, eX6_captainsBy_28, eX6_captainsBy_31, eX6_captainsBy_32, eX6_captainsBy_33, eX6_captainsBy_34, eX6_captainsBy_38, eX6_captainsBy_39, eX6_captainsBy_42, eX6_captainsBy_43, eX6_captainsBy_44, eX6_captainsBy_47, eX6_captainsBy_48, eX6_captainsBy_51, eX6_captainsBy_52, eX6_captainsBy_53, eX6_captainsBy_55, eX6_captainsBy_56, eX6_captainsBy_59, eX6_captainsBy_60, eX6_captainsBy_63, eX6_captainsBy_64, eX6_captainsBy_66, eX6_captainsBy_67, eX6_captainsBy_70, eX6_captainsBy_71, eX6_captainsBy_72, eX6_captainsBy_73, eX6_captainsBy_76, eX6_captainsBy_79, eX6_captainsBy_80, eX6_captainsBy_in, P, zMkk P, zMr0 P, zMk0 P]
        unfold fCap at hQ
        rw [hmo, if_pos hpos] at hQ
        exact hQ
    · rw [eX6_captainsBy_36]
      simp (disch := (first | (simp only [gK_sI, gK_sJ, gK_sR, gK_sIA, gK_sJA, gR_sI, gR_sJ, gR_sIA, Nat.reduceLeDiff, Nat.reduceEqDiff, Nat.reduceLT, Int.reduceLE, Int.reduceLT, Int.reduceEq, zWt_i, zWt_l, zWt_r, zWt_n, P, zMkk P, zMr0 P, zMk0 P] <;> omega) | omega | fail)) only [if_pos, if_neg, wI_id, zLc_lt, zLc_gt, zLc_eq, zLc_le, zLc_ge, Int.reduceEq, Int.reduceLE, Int.reduceLT, Int.reduceNeg, Int.reduceAdd, Int.reduceMul, Int.reduceSub, not_true_eq_false, not_false_eq_true, reduceIte, zPo_v, zPo_n, zPo_t, zKl_i, zKl_r, zKl_n, zKl_l, gK_sI, gK_sJ, gK_sR, gK_sIA, gK_sJA, gR_sI, gR_sJ, gJ_sI, gI_sJ, gI_sR, gJ_sR, gR_sIA, gJ_sIA, Nat.reduceLeDiff, Nat.reduceEqDiff, eX6_captainsBy_0, eX6_captainsBy_1, eX6_captainsBy_2, eX6_captainsBy_3, eX6_captainsBy_5, eX6_captainsBy_6, eX6_captainsBy_9, eX6_captainsBy_10, eX6_captainsBy_11, eX6_captainsBy_14, eX6_captainsBy_15, eX6_captainsBy_16, eX6_captainsBy_17, eX6_captainsBy_18, eX6_captainsBy_21, eX6_captainsBy_24, eX6_captainsBy_25, eX6_captainsBy_28, eX6_captainsBy_31, eX6_captainsBy_32, eX6_captainsBy_33, eX6_captainsBy_34, eX6_captainsBy_38, eX6_captainsBy_39, eX6_captainsBy_42, eX6_captainsBy_43, eX6_captainsBy_44, eX6_captainsBy_47, eX6_captainsBy_48, eX6_captainsBy_51, eX6_captainsBy_52, eX6_captainsBy_53, eX6_captainsBy_55, eX6_captainsBy_56, eX6_captainsBy_59, eX6_captainsBy_60, eX6_captainsBy_63, eX6_captainsBy_64, eX6_captainsBy_66, eX6_captainsBy_67, eX6_captainsBy_70, eX6_captainsBy_71, eX6_captainsBy_72, eX6_captainsBy_73, eX6_captainsBy_76, eX6_captainsBy_79, eX6_captainsBy_80, eX6_captainsBy_in, P, zMkk P, zMr0 P, zMk0 P]
      unfold fCap at hQ
      rw [hmo, if_neg hpos] at hQ
      split <;> exact hQ
theorem cM_bits {s : Int} (h0 : 0 ≤ s) (h1 : s < 64) : zCm mX6_bits d [zi s] h Q ↔ Q (zRv (zi (fPop s)) h) := by
  refine zCm_iff (fun Q hQ => ?_)
  have hb := fPop_b (k := s)
  simp (disch := (first | (simp only [gK_sI, gK_sJ, gK_sR, gK_sIA, gK_sJA, gR_sI, gR_sJ, gR_sIA, Nat.reduceLeDiff, Nat.reduceEqDiff, Nat.reduceLT, Int.reduceLE, Int.reduceLT, Int.reduceEq, zWt_i, zWt_l, zWt_r, zWt_n] <;> omega) | omega | fail)) only [if_pos, if_neg, wI_id, zLc_lt, zLc_gt, zLc_eq, zLc_le, zLc_ge, Int.reduceEq, Int.reduceLE, Int.reduceLT, Int.reduceNeg, Int.reduceAdd, Int.reduceMul, Int.reduceSub, not_true_eq_false, not_false_eq_true, reduceIte, zPo_v, zPo_n, zPo_t, zKl_i, zKl_r, zKl_n, zKl_l, gK_sI, gK_sJ, gK_sR, gK_sIA, gK_sJA, gR_sI, gR_sJ, gJ_sI, gI_sJ, gI_sR, gJ_sR, gR_sIA, gJ_sIA, Nat.reduceLeDiff, Nat.reduceEqDiff, eX6_bits_0, eX6_bits_1, eX6_bits_2, eX6_bits_3, eX6_bits_5, eX6_bits_8, eX6_bits_11, eX6_bits_12, eX6_bits_13, eX6_bits_14, eX6_bits_15, eX6_bits_16, eX6_bits_17, eX6_bits_20, eX6_bits_21, eX6_bits_in]
  refine zLoop (fPop s) (fun i ls h' => h = h' ∧ 0 ≤ i ∧ ∃ k, ls = [some (zi s), some (zi i), some (zi k)] ∧ 0 ≤ k ∧ k < 64 ∧ i + fPop k = fPop s) ?_ ?_ 0 _ _ hb.1 ⟨rfl, by omega, s, rfl, h0, h1, by omega⟩
  · rintro i _ _ hi ⟨rfl, hi0, k, rfl, k0, k1, k2⟩ kk
    have hk : k ≠ 0 := fun e => by
      have := (fPop_0 k0 k1).mpr e
      omega
    obtain ⟨b1, b2, b3⟩ := fPop_and k0 k1 hk
    rw [eX6_bits_4]
    simp (disch := (first | (simp only [gK_sI, gK_sJ, gK_sR, gK_sIA, gK_sJA, gR_sI, gR_sJ, gR_sIA, Nat.reduceLeDiff, Nat.reduceEqDiff, Nat.reduceLT, Int.reduceLE, Int.reduceLT, Int.reduceEq, zWt_i, zWt_l, zWt_r, zWt_n] <;> omega) | omega | fail)) only [if_pos, if_neg, wI_id, zLc_lt, zLc_gt, zLc_eq, zLc_le, zLc_ge, Int.reduceEq, Int.reduceLE, Int.reduceLT, Int.reduceNeg, Int.reduceAdd, Int.reduceMul, Int.reduceSub, not_true_eq_false, not_false_eq_true, reduceIte, zPo_v, zPo_n, zPo_t, zKl_i, zKl_r, zKl_n, zKl_l, gK_sI, gK_sJ, gK_sR, gK_sIA, gK_sJA, gR_sI, gR_sJ, gJ_sI, gI_sJ, gI_sR, gJ_sR, gR_sIA, gJ_sIA, Nat.reduceLeDiff, Nat.reduceEqDiff, eX6_bits_0, eX6_bits_1, eX6_bits_2, eX6_bits_3, eX6_bits_5, eX6_bits_8, eX6_bits_11, eX6_bits_12, eX6_bits_13, eX6_bits_14, eX6_bits_15, eX6_bits_16, eX6_bits_17, eX6_bits_20, eX6_bits_21, eX6_bits_in]
    exact kk _ _ ⟨rfl, by omega, _, rfl, b2, b3, by omega⟩
  · rintro _ _ ⟨rfl, hi0, k, rfl, k0, k1, k2⟩
    have hk : k = 0 := (fPop_0 k0 k1).mp (by omega)
    rw [eX6_bits_4]
    simp (disch := (first | (simp only [gK_sI, gK_sJ, gK_sR, gK_sIA, gK_sJA, gR_sI, gR_sJ, gR_sIA, Nat.reduceLeDiff, Nat.reduceEqDiff, Nat.reduceLT, Int.reduceLE, Int.reduceLT, Int.reduceEq, zWt_i, zWt_l, zWt_r, zWt_n] <;> omega) | omega | fail)) only [if_pos, if_neg, wI_id, zLc_lt, zLc_gt, zLc_eq, zLc_le, zLc_ge, Int.reduceEq, Int.reduceLE, Int.reduceLT, Int.reduceNeg, Int.reduceAdd, Int.reduceMul, Int.reduceSub, not_true_eq_false, not_false_eq_true, reduceIte, zPo_v, zPo_n, zPo_t, zKl_i, zKl_r, zKl_n, zKl_l, gK_sI, gK_sJ, gK_sR, gK_sIA, gK_sJA, gR_sI, gR_sJ, gJ_sI, gI_sJ, gI_sR, gJ_sR, gR_sIA, gJ_sIA, Nat.reduceLeDiff, Nat.reduceEqDiff, eX6_bits_0, eX6_bits_1, eX6_bits_2, eX6_bits_3, eX6_bits_5, eX6_bits_8, eX6_bits_11, eX6_bits_12, eX6_bits_13, eX6_bits_14, eX6_bits_15, eX6_bits_16, eX6_bits_17, eX6_bits_20, eX6_bits_21, eX6_bits_in]
    exact hQ
theorem cM_lowest {s : Int} (h0 : 0 ≤ s) (h1 : s < 64) (hs : s ≠ 0) : zCm mX6_lowest d [zi s] h Q ↔ Q (zRv (zi (fLow s)) h) := by
  refine zCm_iff (fun Q hQ => ?_)
  have hb := fLow_b (s := s)
  simp (disch := (first | (simp only [gK_sI, gK_sJ, gK_sR, gK_sIA, gK_sJA, gR_sI, gR_sJ, gR_sIA, Nat.reduceLeDiff, Nat.reduceEqDiff, Nat.reduceLT, Int.reduceLE, Int.reduceLT, Int.reduceEq, zWt_i, zWt_l, zWt_r, zWt_n] <;> omega) | omega | fail)) only [if_pos, if_neg, wI_id, zLc_lt, zLc_gt, zLc_eq, zLc_le, zLc_ge, Int.reduceEq, Int.reduceLE, Int.reduceLT, Int.reduceNeg, Int.reduceAdd, Int.reduceMul, Int.reduceSub, not_true_eq_false, not_false_eq_true, reduceIte, zPo_v, zPo_n, zPo_t, zKl_i, zKl_r, zKl_n, zKl_l, gK_sI, gK_sJ, gK_sR, gK_sIA, gK_sJA, gR_sI, gR_sJ, gJ_sI, gI_sJ, gI_sR, gJ_sR, gR_sIA, gJ_sIA, Nat.reduceLeDiff, Nat.reduceEqDiff, eX6_lowest_0, eX6_lowest_1, eX6_lowest_3, eX6_lowest_4, eX6_lowest_5, eX6_lowest_6, eX6_lowest_7, eX6_lowest_10, eX6_lowest_13, eX6_lowest_16, eX6_lowest_17, eX6_lowest_in]
  refine zLoop (fLow s) (fun i ls h' => h = h' ∧ 0 ≤ i ∧ ls = [some (zi s), some (zi i)]) ?_ ?_ 0 _ _ hb.1 ⟨rfl, by omega, rfl⟩
  · rintro i _ _ hi ⟨rfl, hi0, rfl⟩ kk
    have hz := fLow_lt h0 h1 hi0 hi
    rw [eX6_lowest_2]
    simp (disch := (first | (simp only [gK_sI, gK_sJ, gK_sR, gK_sIA, gK_sJA, gR_sI, gR_sJ, gR_sIA, Nat.reduceLeDiff, Nat.reduceEqDiff, Nat.reduceLT, Int.reduceLE, Int.reduceLT, Int.reduceEq, zWt_i, zWt_l, zWt_r, zWt_n] <;> omega) | omega | fail)) only [if_pos, if_neg, wI_id, zLc_lt, zLc_gt, zLc_eq, zLc_le, zLc_ge, Int.reduceEq, Int.reduceLE, Int.reduceLT, Int.reduceNeg, Int.reduceAdd, Int.reduceMul, Int.reduceSub, not_true_eq_false, not_false_eq_true, reduceIte, zPo_v, zPo_n, zPo_t, zKl_i, zKl_r, zKl_n, zKl_l, gK_sI, gK_sJ, gK_sR, gK_sIA, gK_sJA, gR_sI, gR_sJ, gJ_sI, gI_sJ, gI_sR, gJ_sR, gR_sIA, gJ_sIA, Nat.reduceLeDiff, Nat.reduceEqDiff, eX6_lowest_0, eX6_lowest_1, eX6_lowest_3, eX6_lowest_4, eX6_lowest_5, eX6_lowest_6, eX6_lowest_7, eX6_lowest_10, eX6_lowest_13, eX6_lowest_16, eX6_lowest_17, eX6_lowest_in, hz]
    exact kk _ _ ⟨rfl, by omega, rfl⟩
  · rintro _ _ ⟨rfl, hi0, rfl⟩
    have hz := fLow_eq h0 h1 hs
    rw [eX6_lowest_2]
    simp (disch := (first | (simp only [gK_sI, gK_sJ, gK_sR, gK_sIA, gK_sJA, gR_sI, gR_sJ, gR_sIA, Nat.reduceLeDiff, Nat.reduceEqDiff, Nat.reduceLT, Int.reduceLE, Int.reduceLT, Int.reduceEq, zWt_i, zWt_l, zWt_r, zWt_n] <;> omega) | omega | fail)) only [if_pos, if_neg, wI_id, zLc_lt, zLc_gt, zLc_eq, zLc_le, zLc_ge, Int.reduceEq, Int.reduceLE, Int.reduceLT, Int.reduceNeg, Int.reduceAdd, Int.reduceMul, Int.reduceSub, not_true_eq_false, not_false_eq_true, reduceIte, zPo_v, zPo_n, zPo_t, zKl_i, zKl_r, zKl_n, zKl_l, gK_sI, gK_sJ, gK_sR, gK_sIA, gK_sJA, gR_sI, gR_sJ, gJ_sI, gI_sJ, gI_sR, gJ_sR, gR_sIA, gJ_sIA, Nat.reduceLeDiff, Nat.reduceEqDiff, eX6_lowest_0, eX6_lowest_1, eX6_lowest_3, eX6_lowest_4, eX6_lowest_5, eX6_lowest_6, eX6_lowest_7, eX6_lowest_10, eX6_lowest_13, eX6_lowest_16, eX6_lowest_17, eX6_lowest_in, hz]
    exact hQ
theorem cM_onlyOne {s : Int} (h0 : 0 ≤ s) (h1 : s < 64) : zCm mX6_onlyOne d [zi s] h Q ↔ Q (zRv (zi (fOne s)) h) := by
  unfold fOne
  by_cases hn : fPop s = 1
  · simp (disch := (first | (simp only [gK_sI, gK_sJ, gK_sR, gK_sIA, gK_sJA, gR_sI, gR_sJ, gR_sIA, Nat.reduceLeDiff, Nat.reduceEqDiff, Nat.reduceLT, Int.reduceLE, Int.reduceLT, Int.reduceEq, zWt_i, zWt_l, zWt_r, zWt_n] <;> omega) | omega | fail)) only [if_pos, if_neg, wI_id, zLc_lt, zLc_gt, zLc_eq, zLc_le, zLc_ge, Int.reduceEq, Int.reduceLE, Int.reduceLT, Int.reduceNeg, Int.reduceAdd, Int.reduceMul, Int.reduceSub, not_true_eq_false, not_false_eq_true, reduceIte, zPo_v, zPo_n, zPo_t, zKl_i, zKl_r, zKl_n, zKl_l, gK_sI, gK_sJ, gK_sR, gK_sIA, gK_sJA, gR_sI, gR_sJ, gJ_sI, gI_sJ, gI_sR, gJ_sR, gR_sIA, gJ_sIA, Nat.reduceLeDiff, Nat.reduceEqDiff, eX6_onlyOne_0, eX6_onlyOne_1, eX6_onlyOne_4, eX6_onlyOne_5, eX6_onlyOne_8, eX6_onlyOne_9, eX6_onlyOne_12, eX6_onlyOne_15, eX6_onlyOne_16, eX6_onlyOne_in, cM_bits h0 h1, cM_lowest h0 h1 (fun e => by rw [(fPop_0 h0 h1).mpr e] at hn; omega), hn]
  · simp (disch := (first | (simp only [gK_sI, gK_sJ, gK_sR, gK_sIA, gK_sJA, gR_sI, gR_sJ, gR_sIA, Nat.reduceLeDiff, Nat.reduceEqDiff, Nat.reduceLT, Int.reduceLE, Int.reduceLT, Int.reduceEq, zWt_i, zWt_l, zWt_r, zWt_n] <;> omega) | omega | fail)) only [if_pos, if_neg, wI_id, zLc_lt, zLc_gt, zLc_eq, zLc_le, zLc_ge, Int.reduceEq, Int.reduceLE, Int.reduceLT, Int.reduceNeg, Int.reduceAdd, Int.reduceMul, Int.reduceSub, not_true_eq_false, not_false_eq_true, reduceIte, zPo_v, zPo_n, zPo_t, zKl_i, zKl_r, zKl_n, zKl_l, gK_sI, gK_sJ, gK_sR, gK_sIA, gK_sJA, gR_sI, gR_sJ, gJ_sI, gI_sJ, gI_sR, gJ_sR, gR_sIA, gJ_sIA, Nat.reduceLeDiff, Nat.reduceEqDiff, eX6_onlyOne_0, eX6_onlyOne_1, eX6_onlyOne_4, eX6_onlyOne_5, eX6_onlyOne_8, eX6_onlyOne_9, eX6_onlyOne_12, eX6_onlyOne_15, eX6_onlyOne_16, eX6_onlyOne_in, cM_bits h0 h1, hn]
theorem cM_captainsNow (P : zMk h) (ha : zGd (gI h 114)) (hl : zLd (gI h 122)) : zCm mX6_captainsNow d [zr (some 113)] h Q ↔ Q (zRv (zi (fCap (gI h 114) (gI h 122) (gI h 114 4))) h) := by
  simp (disch := (first | (simp only [gK_sI, gK_sJ, gK_sR, gK_sIA, gK_sJA, gR_sI, gR_sJ, gR_sIA, Nat.reduceLeDiff, Nat.reduceEqDiff, Nat.reduceLT, Int.reduceLE, Int.reduceLT, Int.reduceEq, zWt_i, zWt_l, zWt_r, zWt_n, P, zMkk P, zMr0 P, zMk0 P] <;> omega) | omega | fail)) only [wI_id, zLc_lt, zLc_gt, zLc_eq, zLc_le, zLc_ge, Int.reduceEq, Int.reduceLE, Int.reduceLT, Int.reduceNeg, Int.reduceAdd, Int.reduceMul, Int.reduceSub, not_true_eq_false, not_false_eq_true, reduceIte, zPo_v, zPo_n, zPo_t, zKl_i, zKl_r, zKl_n, zKl_l, gK_sI, gK_sJ, gK_sR, gK_sIA, gK_sJA, gR_sI, gR_sJ, gJ_sI, gI_sJ, gI_sR, gJ_sR, gR_sIA, gJ_sIA, Nat.reduceLeDiff, Nat.reduceEqDiff, eX6_captainsNow_0, eX6_captainsNow_1, eX6_captainsNow_2, eX6_captainsNow_5, eX6_captainsNow_6, eX6_captainsNow_7, eX6_captainsNow_10, eX6_captainsNow_in, P, zMkk P, zMr0 P, zMk0 P, cM_captainsBy P ha hl]
theorem cM_flag (P : zMk h) (ha : zGd (gI h 114)) (hl : zLd (gI h 122)) : zCm mX6_flag d [zr (some 113)] h Q ↔ Q (zRv (zi (fOne (fCap (gI h 114) (gI h 122) (gI h 114 4)))) h) := by
  have hb := fCap_b (ld := gI h 122) (by9 := gI h 114 4) ha
  simp (disch := (first | (simp only [gK_sI, gK_sJ, gK_sR, gK_sIA, gK_sJA, gR_sI, gR_sJ, gR_sIA, Nat.reduceLeDiff, Nat.reduceEqDiff, Nat.reduceLT, Int.reduceLE, Int.reduceLT, Int.reduceEq, zWt_i, zWt_l, zWt_r, zWt_n, P, zMkk P] <;> omega) | omega | fail)) only [wI_id, zLc_lt, zLc_gt, zLc_eq, zLc_le, zLc_ge, Int.reduceEq, Int.reduceLE, Int.reduceLT, Int.reduceNeg, Int.reduceAdd, Int.reduceMul, Int.reduceSub, not_true_eq_false, not_false_eq_true, reduceIte, zPo_v, zPo_n, zPo_t, zKl_i, zKl_r, zKl_n, zKl_l, gK_sI, gK_sJ, gK_sR, gK_sIA, gK_sJA, gR_sI, gR_sJ, gJ_sI, gI_sJ, gI_sR, gJ_sR, gR_sIA, gJ_sIA, Nat.reduceLeDiff, Nat.reduceEqDiff, eX6_flag_0, eX6_flag_1, eX6_flag_4, eX6_flag_7, eX6_flag_in, P, zMkk P, cM_captainsNow P ha hl, cM_onlyOne]
end M2
