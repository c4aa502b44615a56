/-! ===== THE REFERENCE, 3: the load that is looked at ===== -/
set_option maxRecDepth 100000
def fLd (a : Int → Int) (s : Int) : Int → Int := fun g => a (153 + 15 * s + g)
def fLk (a : Int → Int) (n : Int) (ld : Int → Int) : Int → Int := fun g => if g < a 1 then max 0 (ld g - n * a (34 + 3 * g)) else ld g
def zEq8 (f g : Int → Int) : Prop := ∀ i, 0 ≤ i → i < 8 → f i = g i
theorem fW_congr {a f g : Int → Int} {n y : Int} (ha : a 1 ≤ 8) (e : zEq8 f g) : fW a f n y = fW a g n y := zSum_congr _ (fun i h0 h1 => by
  unfold fWg
  rw [e i h0 (by omega)])
theorem fMost_congr {a f g : Int → Int} {y : Int} (ha : a 1 ≤ 8) (e : zEq8 f g) : ∀ n, fMost a f y n = fMost a g y n
  | 0 => rfl
  | n + 1 => by
    show max (fMost a f y n) (fW a f n y) = max (fMost a g y n) (fW a g n y)
    rw [fMost_congr ha e n, fW_congr ha e]
theorem fSet_congr {a f g : Int → Int} {y m : Int} (ha : a 1 ≤ 8) (e : zEq8 f g) : ∀ n, fSet a f y m n = fSet a g y m n
  | 0 => rfl
  | n + 1 => by
    show (if fW a f n y = m then zOr (fSet a f y m n) (zShl 1 n) else zOr (fSet a f y m n) 0) = (if fW a g n y = m then zOr (fSet a g y m n) (zShl 1 n) else zOr (fSet a g y m n) 0)
    rw [fSet_congr ha e n, fW_congr ha e]
theorem fCap_congr {a f g : Int → Int} {y : Int} (ha : a 1 ≤ 8) (e : zEq8 f g) : fCap a f y = fCap a g y := by
  unfold fCap
  rw [fMost_congr ha e, fSet_congr ha e]
theorem fTons_congr {f g : Int → Int} (e : zEq8 f g) : fTons f = fTons g := zSum_congr 8 (fun i h0 h1 => e i h0 (by omega))
theorem zLd_congr {f g : Int → Int} (e : zEq8 f g) (h : zLd g) : zLd f := fun i h0 h1 => by
  rw [e i h0 h1]
  exact h i h0 h1
theorem zLd_lk {a ld : Int → Int} {n : Int} (h0 : 0 ≤ n) (ha : zGd a) (h : zLd ld) : zLd (fLk a n ld) := fun g g0 g1 => by
  obtain ⟨l1, l2⟩ := h g g0 g1
  obtain ⟨w1, w2⟩ := ha.2.2.2 g g0 g1
  have m1 : 0 ≤ n * a (34 + 3 * g) := Int.mul_nonneg h0 w1
  unfold fLk
  split <;> omega
section M3
variable {d : Nat} {h : zHp} {Q : zRs → Prop}
theorem cM_loads' {s : Int} (P : zMk h) (h0 : 0 ≤ s) (h1 : s < 4) (hQ : ∀ f, zEq8 f (fLd (gI h 114) s) → Q (zRn (sIA h 122 f))) : zCm mX6_loads d [zr (some 113), zi s] h Q := cM_loads P h0 h1 (fun f hf => hQ f hf)
theorem cM_leaks {n : Int} (P : zMk h) (ha : zGd (gI h 114)) (hl : zLd (gI h 122)) (h0 : 0 ≤ n) (h1 : n ≤ 1000) (hQ : ∀ f, zEq8 f (fLk (gI h 114) n (gI h 122)) → Q (zRn (sIA h 122 f))) : zCm mX6_leaks d [zr (some 113), zi n] h Q := by
  obtain ⟨a0, ⟨a1, a2⟩, a3, a4⟩ := id ha
  simp (disch := (first | (simp only [gK_sI, gK_sJ, gK_sR, gK_sIA, gK_sJA, gR_sI, gR_sJ, gR_sIA, Nat.reduceLeDiff, Nat.reduceEqDiff, Nat.reduceLT, Int.reduceLE, Int.reduceLT, Int.reduceEq, zWt_i, zWt_l, zWt_r, zWt_n, P, zMkk P, zMr0 P, zMk0 P, zMr24 P, zMk24 P] <;> omega) | omega | fail)) only [if_pos, if_neg, wI_id, zLc_lt, zLc_gt, zLc_eq, zLc_le, zLc_ge, Int.reduceEq, Int.reduceLE, Int.reduceLT, Int.reduceNeg, Int.reduceAdd, Int.reduceMul, Int.reduceSub, not_true_eq_false, not_false_eq_true, reduceIte, zPo_v, zPo_n, zPo_t, zKl_i, zKl_r, zKl_n, zKl_l, gK_sI, gK_sJ, gK_sR, gK_sIA, gK_sJA, gR_sI, gR_sJ, gJ_sI, gI_sJ, gI_sR, gJ_sR, gR_sIA, gJ_sIA, Nat.reduceLeDiff, Nat.reduceEqDiff, eX6_leaks_0, eX6_leaks_1, eX6_leaks_3, eX6_leaks_4, eX6_leaks_7, eX6_leaks_8, eX6_leaks_9, eX6_leaks_12, eX6_leaks_13, eX6_leaks_16, eX6_leaks_17, eX6_leaks_18, eX6_leaks_19, eX6_leaks_22, eX6_leaks_23, eX6_leaks_24, eX6_leaks_25, eX6_leaks_26, eX6_leaks_29, eX6_leaks_30, eX6_leaks_33, eX6_leaks_34, eX6_leaks_35, eX6_leaks_36, eX6_leaks_37, eX6_leaks_38, eX6_leaks_41, eX6_leaks_42, eX6_leaks_45, eX6_leaks_48, eX6_leaks_in]
  refine zLoop (gI h 114 1) (fun i ls h' => ∃ f, ls = [some (zr (some 113)), some (zi n), some (zi i)] ∧ h' = sIA h 122 f ∧ 0 ≤ i ∧ (∀ j, 0 ≤ j → j < 8 → j < i → f j = fLk (gI h 114) n (gI h 122) j) ∧ ∀ j, i ≤ j → f j = gI h 122 j) ?_ ?_ 0 _ _ a1 ⟨gI h 122, rfl, sIA_id.symm, by omega, fun j _ _ _ => by omega, fun j _ => rfl⟩
  · rintro i _ _ hi ⟨f, rfl, rfl, hi0, hf, hg⟩ k
    have P2 : zMk (sIA h 122 f) := P
    obtain ⟨g1, g2⟩ := a4 i hi0 (by omega)
    obtain ⟨l1, l2⟩ := hl i hi0 (by omega)
    have m1 : 0 ≤ n * gI h 114 (34 + 3 * i) := Int.mul_nonneg h0 g1
    have m2 : n * gI h 114 (34 + 3 * i) ≤ 1000 * 9 := Int.mul_le_mul h1 g2 g1 (by omega)
    have e1 : 32 + 3 * i + 2 = 34 + 3 * i := by omega
    have e2 : f i = gI h 122 i := hg i (by omega)
    rw [eX6_leaks_2]
    simp (disch := (first | (simp only [gK_sI, gK_sJ, gK_sR, gK_sIA, gK_sJA, gR_sI, gR_sJ, gR_sIA, Nat.reduceLeDiff, Nat.reduceEqDiff, Nat.reduceLT, Int.reduceLE, Int.reduceLT, Int.reduceEq, zWt_i, zWt_l, zWt_r, zWt_n, P2, zMkk P2, zMr0 P2, zMk0 P2, zMr24 P2, zMk24 P2] <;> omega) | omega | fail)) only [if_pos, if_neg, wI_id, zLc_lt, zLc_gt, zLc_eq, zLc_le, zLc_ge, Int.reduceEq, Int.reduceLE, Int.reduceLT, Int.reduceNeg, Int.reduceAdd, Int.reduceMul, Int.reduceSub, not_true_eq_false, not_false_eq_true, reduceIte, zPo_v, zPo_n, zPo_t, zKl_i, zKl_r, zKl_n, zKl_l, gK_sI, gK_sJ, gK_sR, gK_sIA, gK_sJA, gR_sI, gR_sJ, gJ_sI, gI_sJ, gI_sR, gJ_sR, gR_sIA, gJ_sIA, Nat.reduceLeDiff, Nat.reduceEqDiff, eX6_leaks_0, eX6_leaks_1, eX6_leaks_3, eX6_leaks_4, eX6_leaks_7, eX6_leaks_8, eX6_leaks_9, eX6_leaks_12, eX6_leaks_13, eX6_leaks_16, eX6_leaks_17, eX6_leaks_18, eX6_leaks_19, eX6_leaks_22, eX6_leaks_23, eX6_leaks_24, eX6_leaks_25, eX6_leaks_26, eX6_leaks_29, eX6_leaks_30, eX6_leaks_33, eX6_leaks_34, eX6_leaks_35, eX6_leaks_36, eX6_leaks_37, eX6_leaks_38, eX6_leaks_41, eX6_leaks_42, eX6_leaks_45, eX6_leaks_48, eX6_leaks_in, P2, zMkk P2, zMr0 P2, zMk0 P2, zMr24 P2, zMk24 P2, cM_goodRow, gI_sIA_ne, gI_sIA_eq, e1, e2]
    try simp (disch := (first | (simp only [gK_sI, gK_sJ, gK_sR, gK_sIA, gK_sJA, gR_sI, gR_sJ, gR_sIA, Nat.reduceLeDiff, Nat.reduceEqDiff, Nat.reduceLT, Int.reduceLE, Int.reduceLT, Int.reduceEq, zWt_i, zWt_l, zWt_r, zWt_n, P2, zMkk P2, zMr0 P2, zMk0 P2, zMr24 P2, zMk24 P2] <;> omega) | omega | fail)) only [if_pos, if_neg, wI_id, zLc_lt, zLc_gt, zLc_eq, zLc_le, zLc_ge, Int.reduceEq, Int.reduceLE, Int.reduceLT, Int.reduceNeg, Int.reduceAdd, Int.reduceMul, Int.reduceSub, not_true_eq_false, not_false_eq_true, reduceIte, zPo_v, zPo_n, zPo_t, zKl_i, zKl_r, zKl_n, zKl_l, gK_sI, gK_sJ, gK_sR, gK_sIA, gK_sJA, gR_sI, gR_sJ, gJ_sI, gI_sJ, gI_sR, gJ_sR, gR_sIA, gJ_sIA, Nat.reduceLeDiff, Nat.reduceEqDiff, eX6_leaks_0, eX6_leaks_1, eX6_leaks_3, eX6_leaks_4, eX6_leaks_7, eX6_leaks_8, eX6_leaks_9, eX6_leaks_12, eX6_leaks_13, eX6_leaks_16, eX6_leaks_17, eX6_leaks_18, eX6_leaks_19, eX6_leaks_22, eX6_leaks_23, eX6_leaks_24, eX6_leaks_25, eX6_leaks_26, eX6_leaks_29, eX6_leaks_30, eX6_leaks_33, eX6_leaks_34, eX6_leaks_35, eX6_leaks_36, eX6_leaks_37, eX6_leaks_38, eX6_leaks_41, eX6_leaks_42, eX6_leaks_45, eX6_leaks_48, eX6_leaks_in, P2, zMkk P2, zMr0 P2, zMk0 P2, zMr24 P2, zMk24 P2, cM_goodRow, gI_sIA_ne, gI_sIA_eq, e1, e2]
    rw [sIA_sI]
    refine k _ _ ⟨_, rfl, rfl, by omega, fun j j0 j8 j1 => ?_, fun j j1 => ?_⟩
    · by_cases e : j = i
      · subst e
        rw [zU_eq]
        unfold fLk
        rw [if_pos hi]
        split <;> omega
      · rw [zU_ne e]
        exact hf j j0 j8 (by omega)
    · rw [zU_ne (by omega)]
      exact hg j (by omega)
  · rintro _ _ ⟨f, rfl, rfl, hi0, hf, hg⟩
    have P2 : zMk (sIA h 122 f) := P
    rw [eX6_leaks_2]
    simp (disch := (first | (simp only [gK_sI, gK_sJ, gK_sR, gK_sIA, gK_sJA, gR_sI, gR_sJ, gR_sIA, Nat.reduceLeDiff, Nat.reduceEqDiff, Nat.reduceLT, Int.reduceLE, Int.reduceLT, Int.reduceEq, zWt_i, zWt_l, zWt_r, zWt_n, P2, zMkk P2, zMr0 P2, zMk0 P2, zMr24 P2, zMk24 P2] <;> omega) | omega | fail)) only [if_pos, if_neg, wI_id, zLc_lt, zLc_gt, zLc_eq, zLc_le, zLc_ge, Int.reduceEq, Int.reduceLE, Int.reduceLT, Int.reduceNeg, Int.reduceAdd, Int.reduceMul, Int.reduceSub, not_true_eq_false, not_false_eq_true, reduceIte, zPo_v, zPo_n, zPo_t, zKl_i, zKl_r, zKl_n, zKl_l, gK_sI, gK_sJ, gK_sR, gK_sIA, gK_sJA, gR_sI, gR_sJ, gJ_sI, gI_sJ, gI_sR, gJ_sR, gR_sIA, gJ_sIA, Nat.reduceLeDiff, Nat.reduceEqDiff, eX6_leaks_0, eX6_leaks_1, eX6_leaks_3, eX6_leaks_4, eX6_leaks_7, eX6_leaks_8, eX6_leaks_9, eX6_leaks_12, eX6_leaks_13, eX6_leaks_16, eX6_leaks_17, eX6_leaks_18, eX6_leaks_19, eX6_leaks_22, eX6_leaks_23, eX6_leaks_24, eX6_leaks_25, eX6_leaks_26, eX6_leaks_29, eX6_leaks_30, eX6_leaks_33, eX6_leaks_34, eX6_leaks_35, eX6_leaks_36, eX6_leaks_37, eX6_leaks_38, eX6_leaks_41, eX6_leaks_42, eX6_leaks_45, eX6_leaks_48, eX6_leaks_in, P2, zMkk P2, zMr0 P2, zMk0 P2, zMr24 P2, zMk24 P2, gI_sIA_ne]
    refine hQ f (fun j j0 j1 => ?_)
    by_cases e : j < gI h 114 1
    · exact hf j j0 j1 e
    · rw [hg j (by omega)]
      unfold fLk
      rw [if_neg e]
theorem sIA2 {a : Nat} {f g : Int → Int} : sIA (sIA h a f) a g = sIA h a g := by
  unfold sIA
  dsimp only
  congr 1
  congr 1
  congr 1
  funext b
  by_cases e : b = a <;> simp [e]
theorem cM_loadsIn {s n : Int} (P : zMk h) (ha : zGd (gI h 114)) (hl : zLd (fLd (gI h 114) s)) (h0 : 0 ≤ s) (h1 : s < 4) (n0 : 0 ≤ n) (n1 : n ≤ 1000) (hQ : ∀ f, zEq8 f (fLk (gI h 114) n (fLd (gI h 114) s)) → Q (zRn (sIA h 122 f))) : zCm mX6_loadsIn d [zr (some 113), zi s, zi n] h Q := by
  simp (disch := (first | (simp only [gK_sI, gK_sJ, gK_sR, gK_sIA, gK_sJA, gR_sI, gR_sJ, gR_sIA, Nat.reduceLeDiff, Nat.reduceEqDiff, Nat.reduceLT, Int.reduceLE, Int.reduceLT, Int.reduceEq, zWt_i, zWt_l, zWt_r, zWt_n, P, zMkk P] <;> omega) | omega | fail)) only [if_pos, if_neg, wI_id, zLc_lt, zLc_gt, zLc_eq, zLc_le, zLc_ge, Int.reduceEq, Int.reduceLE, Int.reduceLT, Int.reduceNeg, Int.reduceAdd, Int.reduceMul, Int.reduceSub, not_true_eq_false, not_false_eq_true, reduceIte, zPo_v, zPo_n, zPo_t, zKl_i, zKl_r, zKl_n, zKl_l, gK_sI, gK_sJ, gK_sR, gK_sIA, gK_sJA, gR_sI, gR_sJ, gJ_sI, gI_sJ, gI_sR, gJ_sR, gR_sIA, gJ_sIA, Nat.reduceLeDiff, Nat.reduceEqDiff, eX6_loadsIn_0, eX6_loadsIn_1, eX6_loadsIn_2, eX6_loadsIn_5, eX6_loadsIn_6, eX6_loadsIn_7, eX6_loadsIn_10, eX6_loadsIn_in]
  refine cM_loads' P h0 h1 (fun f hf => ?_)
  have P2 : zMk (sIA h 122 f) := P
  simp (disch := (first | (simp only [gK_sI, gK_sJ, gK_sR, gK_sIA, gK_sJA, gR_sI, gR_sJ, gR_sIA, Nat.reduceLeDiff, Nat.reduceEqDiff, Nat.reduceLT, Int.reduceLE, Int.reduceLT, Int.reduceEq, zWt_i, zWt_l, zWt_r, zWt_n, P2, zMkk P2] <;> omega) | omega | fail)) only [if_pos, if_neg, wI_id, zLc_lt, zLc_gt, zLc_eq, zLc_le, zLc_ge, Int.reduceEq, Int.reduceLE, Int.reduceLT, Int.reduceNeg, Int.reduceAdd, Int.reduceMul, Int.reduceSub, not_true_eq_false, not_false_eq_true, reduceIte, zPo_v, zPo_n, zPo_t, zKl_i, zKl_r, zKl_n, zKl_l, gK_sI, gK_sJ, gK_sR, gK_sIA, gK_sJA, gR_sI, gR_sJ, gJ_sI, gI_sJ, gI_sR, gJ_sR, gR_sIA, gJ_sIA, Nat.reduceLeDiff, Nat.reduceEqDiff, eX6_loadsIn_0, eX6_loadsIn_1, eX6_loadsIn_2, eX6_loadsIn_5, eX6_loadsIn_6, eX6_loadsIn_7, eX6_loadsIn_10, eX6_loadsIn_in]
  refine cM_leaks P2 ha (by rw [gI_sIA_eq]; exact zLd_congr hf hl) n0 n1 (fun g hg => ?_)
  rw [sIA2]
  simp (disch := (first | (simp only [gK_sI, gK_sJ, gK_sR, gK_sIA, gK_sJA, gR_sI, gR_sJ, gR_sIA, Nat.reduceLeDiff, Nat.reduceEqDiff, Nat.reduceLT, Int.reduceLE, Int.reduceLT, Int.reduceEq, zWt_i, zWt_l, zWt_r, zWt_n] <;> omega) | omega | fail)) only [if_pos, if_neg, wI_id, zLc_lt, zLc_gt, zLc_eq, zLc_le, zLc_ge, Int.reduceEq, Int.reduceLE, Int.reduceLT, Int.reduceNeg, Int.reduceAdd, Int.reduceMul, Int.reduceSub, not_true_eq_false, not_false_eq_true, reduceIte, zPo_v, zPo_n, zPo_t, zKl_i, zKl_r, zKl_n, zKl_l, gK_sI, gK_sJ, gK_sR, gK_sIA, gK_sJA, gR_sI, gR_sJ, gJ_sI, gI_sJ, gI_sR, gJ_sR, gR_sIA, gJ_sIA, Nat.reduceLeDiff, Nat.reduceEqDiff, eX6_loadsIn_0, eX6_loadsIn_1, eX6_loadsIn_2, eX6_loadsIn_5, eX6_loadsIn_6, eX6_loadsIn_7, eX6_loadsIn_10, eX6_loadsIn_in]
  refine hQ g (fun i i0 i1 => ?_)
  rw [hg i i0 i1, gI_sIA_eq, gI_sIA_ne (by decide)]
  unfold fLk
  rw [hf i i0 i1]
theorem cM_tonsOf {s : Int} (P : zMk h) (hl : zLd (fLd (gI h 114) s)) (h0 : 0 ≤ s) (h1 : s < 4) (hQ : ∀ f, Q (zRv (zi (fTons (fLd (gI h 114) s))) (sIA h 122 f))) : zCm mX6_tonsOf d [zr (some 113), zi s] h Q := by
  simp (disch := (first | (simp only [gK_sI, gK_sJ, gK_sR, gK_sIA, gK_sJA, gR_sI, gR_sJ, gR_sIA, Nat.reduceLeDiff, Nat.reduceEqDiff, Nat.reduceLT, Int.reduceLE, Int.reduceLT, Int.reduceEq, zWt_i, zWt_l, zWt_r, zWt_n, P, zMkk P] <;> omega) | omega | fail)) only [if_pos, if_neg, wI_id, zLc_lt, zLc_gt, zLc_eq, zLc_le, zLc_ge, Int.reduceEq, Int.reduceLE, Int.reduceLT, Int.reduceNeg, Int.reduceAdd, Int.reduceMul, Int.reduceSub, not_true_eq_false, not_false_eq_true, reduceIte, zPo_v, zPo_n, zPo_t, zKl_i, zKl_r, zKl_n, zKl_l, gK_sI, gK_sJ, gK_sR, gK_sIA, gK_sJA, gR_sI, gR_sJ, gJ_sI, gI_sJ, gI_sR, gJ_sR, gR_sIA, gJ_sIA, Nat.reduceLeDiff, Nat.reduceEqDiff, eX6_tonsOf_0, eX6_tonsOf_1, eX6_tonsOf_2, eX6_tonsOf_5, eX6_tonsOf_6, eX6_tonsOf_9, eX6_tonsOf_in]
  refine cM_loads' P h0 h1 (fun f hf => ?_)
  have P2 : zMk (sIA h 122 f) := P
  simp (disch := (first | (simp only [gK_sI, gK_sJ, gK_sR, gK_sIA, gK_sJA, gR_sI, gR_sJ, gR_sIA, Nat.reduceLeDiff, Nat.reduceEqDiff, Nat.reduceLT, Int.reduceLE, Int.reduceLT, Int.reduceEq, zWt_i, zWt_l, zWt_r, zWt_n, P2, zMkk P2] <;> omega) | omega | fail)) only [if_pos, if_neg, wI_id, zLc_lt, zLc_gt, zLc_eq, zLc_le, zLc_ge, Int.reduceEq, Int.reduceLE, Int.reduceLT, Int.reduceNeg, Int.reduceAdd, Int.reduceMul, Int.reduceSub, not_true_eq_false, not_false_eq_true, reduceIte, zPo_v, zPo_n, zPo_t, zKl_i, zKl_r, zKl_n, zKl_l, gK_sI, gK_sJ, gK_sR, gK_sIA, gK_sJA, gR_sI, gR_sJ, gJ_sI, gI_sJ, gI_sR, gJ_sR, gR_sIA, gJ_sIA, Nat.reduceLeDiff, Nat.reduceEqDiff, eX6_tonsOf_0, eX6_tonsOf_1, eX6_tonsOf_2, eX6_tonsOf_5, eX6_tonsOf_6, eX6_tonsOf_9, eX6_tonsOf_in, cM_tons P2 (by rw [gI_sIA_eq]; exact zLd_congr hf hl), gI_sIA_eq, fTons_congr hf]
  exact hQ f
theorem cM_flagOf {s : Int} (P : zMk h) (ha : zGd (gI h 114)) (hl : zLd (fLd (gI h 114) s)) (h0 : 0 ≤ s) (h1 : s < 4) (hQ : ∀ f, zEq8 f (fLd (gI h 114) s) → Q (zRv (zi (fOne (fCap (gI h 114) (fLd (gI h 114) s) (gI h 114 4)))) (sIA h 122 f))) : zCm mX6_flagOf d [zr (some 113), zi s] h Q := by
  simp (disch := (first | (simp only [gK_sI, gK_sJ, gK_sR, gK_sIA, gK_sJA, gR_sI, gR_sJ, gR_sIA, Nat.reduceLeDiff, Nat.reduceEqDiff, Nat.reduceLT, Int.reduceLE, Int.reduceLT, Int.reduceEq, zWt_i, zWt_l, zWt_r, zWt_n, P, zMkk P] <;> omega) | omega | fail)) only [if_pos, if_neg, wI_id, zLc_lt, zLc_gt, zLc_eq, zLc_le, zLc_ge, Int.reduceEq, Int.reduceLE, Int.reduceLT, Int.reduceNeg, Int.reduceAdd, Int.reduceMul, Int.reduceSub, not_true_eq_false, not_false_eq_true, reduceIte, zPo_v, zPo_n, zPo_t, zKl_i, zKl_r, zKl_n, zKl_l, gK_sI, gK_sJ, gK_sR, gK_sIA, gK_sJA, gR_sI, gR_sJ, gJ_sI, gI_sJ, gI_sR, gJ_sR, gR_sIA, gJ_sIA, Nat.reduceLeDiff, Nat.reduceEqDiff, eX6_flagOf_0, eX6_flagOf_1, eX6_flagOf_2, eX6_flagOf_5, eX6_flagOf_6, eX6_flagOf_9, eX6_flagOf_in]
  refine cM_loads' P h0 h1 (fun f hf => ?_)
  have P2 : zMk (sIA h 122 f) := P
  simp (disch := (first | (simp only [gK_sI, gK_sJ, gK_sR, gK_sIA, gK_sJA, gR_sI, gR_sJ, gR_sIA, Nat.reduceLeDiff, Nat.reduceEqDiff, Nat.reduceLT, Int.reduceLE, Int.reduceLT, Int.reduceEq, zWt_i, zWt_l, zWt_r, zWt_n, P2, zMkk P2] <;> omega) | omega | fail)) only [if_pos, if_neg, wI_id, zLc_lt, zLc_gt, zLc_eq, zLc_le, zLc_ge, Int.reduceEq, Int.reduceLE, Int.reduceLT, Int.reduceNeg, Int.reduceAdd, Int.reduceMul, Int.reduceSub, not_true_eq_false, not_false_eq_true, reduceIte, zPo_v, zPo_n, zPo_t, zKl_i, zKl_r, zKl_n, zKl_l, gK_sI, gK_sJ, gK_sR, gK_sIA, gK_sJA, gR_sI, gR_sJ, gJ_sI, gI_sJ, gI_sR, gJ_sR, gR_sIA, gJ_sIA, Nat.reduceLeDiff, Nat.reduceEqDiff, eX6_flagOf_0, eX6_flagOf_1, eX6_flagOf_2, eX6_flagOf_5, eX6_flagOf_6, eX6_flagOf_9, eX6_flagOf_in, cM_flag P2 ha (by rw [gI_sIA_eq]; exact zLd_congr hf hl), gI_sIA_eq, gI_sIA_ne, fCap_congr ha.2.1.2 hf]
  exact hQ f hf
theorem cM_flagBy {s n : Int} (P : zMk h) (ha : zGd (gI h 114)) (hl : zLd (fLd (gI h 114) s)) (h0 : 0 ≤ s) (h1 : s < 4) (n0 : 0 ≤ n) (n1 : n ≤ 1000) (hQ : ∀ f, Q (zRv (zi (fOne (fCap (gI h 114) (fLk (gI h 114) n (fLd (gI h 114) s)) (gI h 114 4)))) (sIA h 122 f))) : zCm mX6_flagBy d [zr (some 113), zi s, zi n] h Q := by
  simp (disch := (first | (simp only [gK_sI, gK_sJ, gK_sR, gK_sIA, gK_sJA, gR_sI, gR_sJ, gR_sIA, Nat.reduceLeDiff, Nat.reduceEqDiff, Nat.reduceLT, Int.reduceLE, Int.reduceLT, Int.reduceEq, zWt_i, zWt_l, zWt_r, zWt_n, P, zMkk P] <;> omega) | omega | fail)) only [if_pos, if_neg, wI_id, zLc_lt, zLc_gt, zLc_eq, zLc_le, zLc_ge, Int.reduceEq, Int.reduceLE, Int.reduceLT, Int.reduceNeg, Int.reduceAdd, Int.reduceMul, Int.reduceSub, not_true_eq_false, not_false_eq_true, reduceIte, zPo_v, zPo_n, zPo_t, zKl_i, zKl_r, zKl_n, zKl_l, gK_sI, gK_sJ, gK_sR, gK_sIA, gK_sJA, gR_sI, gR_sJ, gJ_sI, gI_sJ, gI_sR, gJ_sR, gR_sIA, gJ_sIA, Nat.reduceLeDiff, Nat.reduceEqDiff, eX6_flagBy_0, eX6_flagBy_1, eX6_flagBy_2, eX6_flagBy_3, eX6_flagBy_6, eX6_flagBy_7, eX6_flagBy_10, eX6_flagBy_in]
  refine cM_loadsIn P ha hl h0 h1 n0 n1 (fun f hf => ?_)
  have P2 : zMk (sIA h 122 f) := P
  simp (disch := (first | (simp only [gK_sI, gK_sJ, gK_sR, gK_sIA, gK_sJA, gR_sI, gR_sJ, gR_sIA, Nat.reduceLeDiff, Nat.reduceEqDiff, Nat.reduceLT, Int.reduceLE, Int.reduceLT, Int.reduceEq, zWt_i, zWt_l, zWt_r, zWt_n, P2, zMkk P2] <;> omega) | omega | fail)) only [if_pos, if_neg, wI_id, zLc_lt, zLc_gt, zLc_eq, zLc_le, zLc_ge, Int.reduceEq, Int.reduceLE, Int.reduceLT, Int.reduceNeg, Int.reduceAdd, Int.reduceMul, Int.reduceSub, not_true_eq_false, not_false_eq_true, reduceIte, zPo_v, zPo_n, zPo_t, zKl_i, zKl_r, zKl_n, zKl_l, gK_sI, gK_sJ, gK_sR, gK_sIA, gK_sJA, gR_sI, gR_sJ, gJ_sI, gI_sJ, gI_sR, gJ_sR, gR_sIA, gJ_sIA, Nat.reduceLeDiff, Nat.reduceEqDiff, eX6_flagBy_0, eX6_flagBy_1, eX6_flagBy_2, eX6_flagBy_3, eX6_flagBy_6, eX6_flagBy_7, eX6_flagBy_10, eX6_flagBy_in, cM_flag P2 ha (by rw [gI_sIA_eq]; exact zLd_congr hf (zLd_lk n0 ha hl)), gI_sIA_eq, gI_sIA_ne, fCap_congr ha.2.1.2 hf]
  exact hQ f
theorem cM_captainsOf {s y : Int} (P : zMk h) (ha : zGd (gI h 114)) (hl : zLd (fLd (gI h 114) s)) (h0 : 0 ≤ s) (h1 : s < 4) (hQ : ∀ f, Q (zRv (zi (fCap (gI h 114) (fLd (gI h 114) s) y)) (sIA h 122 f))) : zCm mX6_captainsOf d [zr (some 113), zi s, zi y] h Q := by
  simp (disch := (first | (simp only [gK_sI, gK_sJ, gK_sR, gK_sIA, gK_sJA, gR_sI, gR_sJ, gR_sIA, Nat.reduceLeDiff, Nat.reduceEqDiff, Nat.reduceLT, Int.reduceLE, Int.reduceLT, Int.reduceEq, zWt_i, zWt_l, zWt_r, zWt_n, P, zMkk P] <;> omega) | omega | fail)) only [if_pos, if_neg, wI_id, zLc_lt, zLc_gt, zLc_eq, zLc_le, zLc_ge, Int.reduceEq, Int.reduceLE, Int.reduceLT, Int.reduceNeg, Int.reduceAdd, Int.reduceMul, Int.reduceSub, not_true_eq_false, not_false_eq_true, reduceIte, zPo_v, zPo_n, zPo_t, zKl_i, zKl_r, zKl_n, zKl_l, gK_sI, gK_sJ, gK_sR, gK_sIA, gK_sJA, gR_sI, gR_sJ, gJ_sI, gI_sJ, gI_sR, gJ_sR, gR_sIA, gJ_sIA, Nat.reduceLeDiff, Nat.reduceEqDiff, eX6_captainsOf_0, eX6_captainsOf_1, eX6_captainsOf_2, eX6_captainsOf_5, eX6_captainsOf_6, eX6_captainsOf_7, eX6_captainsOf_10, eX6_captainsOf_in]
  refine cM_loads' P h0 h1 (fun f hf => ?_)
  have P2 : zMk (sIA h 122 f) := P
  simp (disch := (first | (simp only [gK_sI, gK_sJ, gK_sR, gK_sIA, gK_sJA, gR_sI, gR_sJ, gR_sIA, Nat.reduceLeDiff, Nat.reduceEqDiff, Nat.reduceLT, Int.reduceLE, Int.reduceLT, Int.reduceEq, zWt_i, zWt_l, zWt_r, zWt_n, P2, zMkk P2] <;> omega) | omega | fail)) only [if_pos, if_neg, wI_id, zLc_lt, zLc_gt, zLc_eq, zLc_le, zLc_ge, Int.reduceEq, Int.reduceLE, Int.reduceLT, Int.reduceNeg, Int.reduceAdd, Int.reduceMul, Int.reduceSub, not_true_eq_false, not_false_eq_true, reduceIte, zPo_v, zPo_n, zPo_t, zKl_i, zKl_r, zKl_n, zKl_l, gK_sI, gK_sJ, gK_sR, gK_sIA, gK_sJA, gR_sI, gR_sJ, gJ_sI, gI_sJ, gI_sR, gJ_sR, gR_sIA, gJ_sIA, Nat.reduceLeDiff, Nat.reduceEqDiff, eX6_captainsOf_0, eX6_captainsOf_1, eX6_captainsOf_2, eX6_captainsOf_5, eX6_captainsOf_6, eX6_captainsOf_7, eX6_captainsOf_10, eX6_captainsOf_in, cM_captainsBy P2 ha (by rw [gI_sIA_eq]; exact zLd_congr hf hl), gI_sIA_eq, gI_sIA_ne, fCap_congr ha.2.1.2 hf]
  exact hQ f
theorem cM_tonsBy {s n : Int} (P : zMk h) (ha : zGd (gI h 114)) (hl : zLd (fLd (gI h 114) s)) (h0 : 0 ≤ s) (h1 : s < 4) (hQ : ∀ f, Q (zRv (zi (fW (gI h 114) (fLd (gI h 114) s) n 0)) (sIA h 122 f))) : zCm mX6_tonsBy d [zr (some 113), zi s, zi n] h Q := by
  simp (disch := (first | (simp only [gK_sI, gK_sJ, gK_sR, gK_sIA, gK_sJA, gR_sI, gR_sJ, gR_sIA, Nat.reduceLeDiff, Nat.reduceEqDiff, Nat.reduceLT, Int.reduceLE, Int.reduceLT, Int.reduceEq, zWt_i, zWt_l, zWt_r, zWt_n, P, zMkk P] <;> omega) | omega | fail)) only [if_pos, if_neg, wI_id, zLc_lt, zLc_gt, zLc_eq, zLc_le, zLc_ge, Int.reduceEq, Int.reduceLE, Int.reduceLT, Int.reduceNeg, Int.reduceAdd, Int.reduceMul, Int.reduceSub, not_true_eq_false, not_false_eq_true, reduceIte, zPo_v, zPo_n, zPo_t, zKl_i, zKl_r, zKl_n, zKl_l, gK_sI, gK_sJ, gK_sR, gK_sIA, gK_sJA, gR_sI, gR_sJ, gJ_sI, gI_sJ, gI_sR, gJ_sR, gR_sIA, gJ_sIA, Nat.reduceLeDiff, Nat.reduceEqDiff, eX6_tonsBy_0, eX6_tonsBy_1, eX6_tonsBy_2, eX6_tonsBy_5, eX6_tonsBy_6, eX6_tonsBy_7, eX6_tonsBy_8, eX6_tonsBy_11, eX6_tonsBy_in]
  refine cM_loads' P h0 h1 (fun f hf => ?_)
  have P2 : zMk (sIA h 122 f) := P
  simp (disch := (first | (simp only [gK_sI, gK_sJ, gK_sR, gK_sIA, gK_sJA, gR_sI, gR_sJ, gR_sIA, Nat.reduceLeDiff, Nat.reduceEqDiff, Nat.reduceLT, Int.reduceLE, Int.reduceLT, Int.reduceEq, zWt_i, zWt_l, zWt_r, zWt_n, P2, zMkk P2] <;> omega) | omega | fail)) only [if_pos, if_neg, wI_id, zLc_lt, zLc_gt, zLc_eq, zLc_le, zLc_ge, Int.reduceEq, Int.reduceLE, Int.reduceLT, Int.reduceNeg, Int.reduceAdd, Int.reduceMul, Int.reduceSub, not_true_eq_false, not_false_eq_true, reduceIte, zPo_v, zPo_n, zPo_t, zKl_i, zKl_r, zKl_n, zKl_l, gK_sI, gK_sJ, gK_sR, gK_sIA, gK_sJA, gR_sI, gR_sJ, gJ_sI, gI_sJ, gI_sR, gJ_sR, gR_sIA, gJ_sIA, Nat.reduceLeDiff, Nat.reduceEqDiff, eX6_tonsBy_0, eX6_tonsBy_1, eX6_tonsBy_2, eX6_tonsBy_5, eX6_tonsBy_6, eX6_tonsBy_7, eX6_tonsBy_8, eX6_tonsBy_11, eX6_tonsBy_in, cM_weightOf P2 ha (by rw [gI_sIA_eq]; exact zLd_congr hf hl), gI_sIA_eq, gI_sIA_ne, fW_congr ha.2.1.2 hf]
  exact hQ f
theorem fTons_b {ld : Int → Int} (hl : zLd ld) : 0 ≤ fTons ld ∧ fTons ld ≤ 8000 := by
  have h9 := zSum_le (f := ld) (lo := 0) (hi := 1000) 8 (fun i h0 h1 => hl i h0 (by omega))
  unfold fTons
  omega
theorem cM_roomOf {s : Int} (P : zMk h) (hl : zLd (fLd (gI h 114) s)) (hh : 0 ≤ gI h 114 (149 + 15 * s) ∧ gI h 114 (149 + 15 * s) ≤ 1000) (h0 : 0 ≤ s) (h1 : s < 4) (hQ : ∀ f, Q (zRv (zi (gI h 114 (149 + 15 * s) - fTons (fLd (gI h 114) s))) (sIA h 122 f))) : zCm mX6_roomOf d [zr (some 113), zi s] h Q := by
  have e1 : 146 + 15 * s + 3 = 149 + 15 * s := by omega
  have hb := fTons_b hl
  simp (disch := (first | (simp only [gK_sI, gK_sJ, gK_sR, gK_sIA, gK_sJA, gR_sI, gR_sJ, gR_sIA, Nat.reduceLeDiff, Nat.reduceEqDiff, Nat.reduceLT, Int.reduceLE, Int.reduceLT, Int.reduceEq, zWt_i, zWt_l, zWt_r, zWt_n, P, zMkk P] <;> omega) | omega | fail)) only [if_pos, if_neg, wI_id, zLc_lt, zLc_gt, zLc_eq, zLc_le, zLc_ge, Int.reduceEq, Int.reduceLE, Int.reduceLT, Int.reduceNeg, Int.reduceAdd, Int.reduceMul, Int.reduceSub, not_true_eq_false, not_false_eq_true, reduceIte, zPo_v, zPo_n, zPo_t, zKl_i, zKl_r, zKl_n, zKl_l, gK_sI, gK_sJ, gK_sR, gK_sIA, gK_sJA, gR_sI, gR_sJ, gJ_sI, gI_sJ, gI_sR, gJ_sR, gR_sIA, gJ_sIA, Nat.reduceLeDiff, Nat.reduceEqDiff, eX6_roomOf_0, eX6_roomOf_1, eX6_roomOf_2, eX6_roomOf_3, eX6_roomOf_6, eX6_roomOf_7, eX6_roomOf_8, eX6_roomOf_11, eX6_roomOf_12, eX6_roomOf_in, P, zMkk P, cM_shipOf, e1]
  refine cM_tonsOf P hl h0 h1 (fun f => ?_)
  simp (disch := (first | (simp only [gK_sI, gK_sJ, gK_sR, gK_sIA, gK_sJA, gR_sI, gR_sJ, gR_sIA, Nat.reduceLeDiff, Nat.reduceEqDiff, Nat.reduceLT, Int.reduceLE, Int.reduceLT, Int.reduceEq, zWt_i, zWt_l, zWt_r, zWt_n] <;> omega) | omega | fail)) only [if_pos, if_neg, wI_id, zLc_lt, zLc_gt, zLc_eq, zLc_le, zLc_ge, Int.reduceEq, Int.reduceLE, Int.reduceLT, Int.reduceNeg, Int.reduceAdd, Int.reduceMul, Int.reduceSub, not_true_eq_false, not_false_eq_true, reduceIte, zPo_v, zPo_n, zPo_t, zKl_i, zKl_r, zKl_n, zKl_l, gK_sI, gK_sJ, gK_sR, gK_sIA, gK_sJA, gR_sI, gR_sJ, gJ_sI, gI_sJ, gI_sR, gJ_sR, gR_sIA, gJ_sIA, Nat.reduceLeDiff, Nat.reduceEqDiff, eX6_roomOf_0, eX6_roomOf_1, eX6_roomOf_2, eX6_roomOf_3, eX6_roomOf_6, eX6_roomOf_7, eX6_roomOf_8, eX6_roomOf_11, eX6_roomOf_12, eX6_roomOf_in]
  exact hQ f
theorem cM_canBoard {s o : Int} (P : zMk h) (ha : zGd (gI h 114)) (hl : ∀ s, 0 ≤ s → s < 4 → zLd (fLd (gI h 114) s)) (h0 : 0 ≤ s) (h1 : s < 4) (g0 : 0 ≤ o) (g1 : o < 4) (hQ : ∀ f, Q (zRv (zi (if s ≠ o ∧ fOne (fCap (gI h 114) (fLd (gI h 114) s) (gI h 114 4)) ≠ -1 ∧ fOne (fCap (gI h 114) (fLd (gI h 114) o) (gI h 114 4)) ≠ -1 ∧ zAnd (zShr (gI h 114 (11 + 4 * fOne (fCap (gI h 114) (fLd (gI h 114) s) (gI h 114 4)))) (fOne (fCap (gI h 114) (fLd (gI h 114) o) (gI h 114 4)))) 1 = 1 then 1 else 0)) (sIA h 122 f))) : zCm mX6_canBoard d [zr (some 113), zi s, zi o] h Q := by
  simp (disch := (first | (simp only [gK_sI, gK_sJ, gK_sR, gK_sIA, gK_sJA, gR_sI, gR_sJ, gR_sIA, Nat.reduceLeDiff, Nat.reduceEqDiff, Nat.reduceLT, Int.reduceLE, Int.reduceLT, Int.reduceEq, zWt_i, zWt_l, zWt_r, zWt_n, P, zMkk P, zMr0 P, zMk0 P] <;> omega) | omega | fail)) only [if_pos, if_neg, wI_id, zLc_lt, zLc_gt, zLc_eq, zLc_le, zLc_ge, Int.reduceEq, Int.reduceLE, Int.reduceLT, Int.reduceNeg, Int.reduceAdd, Int.reduceMul, Int.reduceSub, not_true_eq_false, not_false_eq_true, reduceIte, zPo_v, zPo_n, zPo_t, zKl_i, zKl_r, zKl_n, zKl_l, gK_sI, gK_sJ, gK_sR, gK_sIA, gK_sJA, gR_sI, gR_sJ, gJ_sI, gI_sJ, gI_sR, gJ_sR, gR_sIA, gJ_sIA, Nat.reduceLeDiff, Nat.reduceEqDiff, eX6_canBoard_0, eX6_canBoard_1, eX6_canBoard_2, eX6_canBoard_5, eX6_canBoard_6, eX6_canBoard_7, eX6_canBoard_8, eX6_canBoard_11, eX6_canBoard_13, eX6_canBoard_14, eX6_canBoard_15, eX6_canBoard_18, eX6_canBoard_19, eX6_canBoard_20, eX6_canBoard_23, eX6_canBoard_25, eX6_canBoard_26, eX6_canBoard_29, eX6_canBoard_30, eX6_canBoard_31, eX6_canBoard_34, eX6_canBoard_35, eX6_canBoard_38, eX6_canBoard_39, eX6_canBoard_40, eX6_canBoard_41, eX6_canBoard_43, eX6_canBoard_46, eX6_canBoard_49, eX6_canBoard_50, eX6_canBoard_53, eX6_canBoard_54, eX6_canBoard_in]
  refine cM_flagOf P ha (hl s h0 h1) h0 h1 (fun f _ => ?_)
  have P2 : zMk (sIA h 122 f) := P
  simp (disch := (first | (simp only [gK_sI, gK_sJ, gK_sR, gK_sIA, gK_sJA, gR_sI, gR_sJ, gR_sIA, Nat.reduceLeDiff, Nat.reduceEqDiff, Nat.reduceLT, Int.reduceLE, Int.reduceLT, Int.reduceEq, zWt_i, zWt_l, zWt_r, zWt_n, P2, zMkk P2, zMr0 P2, zMk0 P2] <;> omega) | omega | fail)) only [if_pos, if_neg, wI_id, zLc_lt, zLc_gt, zLc_eq, zLc_le, zLc_ge, Int.reduceEq, Int.reduceLE, Int.reduceLT, Int.reduceNeg, Int.reduceAdd, Int.reduceMul, Int.reduceSub, not_true_eq_false, not_false_eq_true, reduceIte, zPo_v, zPo_n, zPo_t, zKl_i, zKl_r, zKl_n, zKl_l, gK_sI, gK_sJ, gK_sR, gK_sIA, gK_sJA, gR_sI, gR_sJ, gJ_sI, gI_sJ, gI_sR, gJ_sR, gR_sIA, gJ_sIA, Nat.reduceLeDiff, Nat.reduceEqDiff, eX6_canBoard_0, eX6_canBoard_1, eX6_canBoard_2, eX6_canBoard_5, eX6_canBoard_6, eX6_canBoard_7, eX6_canBoard_8, eX6_canBoard_11, eX6_canBoard_13, eX6_canBoard_14, eX6_canBoard_15, eX6_canBoard_18, eX6_canBoard_19, eX6_canBoard_20, eX6_canBoard_23, eX6_canBoard_25, eX6_canBoard_26, eX6_canBoard_29, eX6_canBoard_30, eX6_canBoard_31, eX6_canBoard_34, eX6_canBoard_35, eX6_canBoard_38, eX6_canBoard_39, eX6_canBoard_40, eX6_canBoard_41, eX6_canBoard_43, eX6_canBoard_46, eX6_canBoard_49, eX6_canBoard_50, eX6_canBoard_53, eX6_canBoard_54, eX6_canBoard_in]
  refine cM_flagOf P2 ha (hl o g0 g1) g0 g1 (fun f2 _ => ?_)
  rw [sIA2]
  have hQ := hQ f2
  have P3 : zMk (sIA h 122 f2) := P
  have b1 := fOne_b (s := fCap (gI h 114) (fLd (gI h 114) s) (gI h 114 4))
  have b2 := fOne_b (s := fCap (gI h 114) (fLd (gI h 114) o) (gI h 114 4))
  rw [gI_sIA_ne (by decide)]
  generalize fOne (fCap (gI h 114) (fLd (gI h 114) s) (gI h 114 4)) = w1 at *
  generalize fOne (fCap (gI h 114) (fLd (gI h 114) o) (gI h 114 4)) = w2 at *
  by_cases e1 : w1 = -1
  · rw [if_neg (by omega)] at hQ
    simp (disch := (first | (simp only [gK_sI, gK_sJ, gK_sR, gK_sIA, gK_sJA, gR_sI, gR_sJ, gR_sIA, Nat.reduceLeDiff, Nat.reduceEqDiff, Nat.reduceLT, Int.reduceLE, Int.reduceLT, Int.reduceEq, zWt_i, zWt_l, zWt_r, zWt_n, P3, zMkk P3, zMr0 P3, zMk0 P3] <;> omega) | omega | fail)) only [if_pos, if_neg, wI_id, zLc_lt, zLc_gt, zLc_eq, zLc_le, zLc_ge, Int.reduceEq, Int.reduceLE, Int.reduceLT, Int.reduceNeg, Int.reduceAdd, Int.reduceMul, Int.reduceSub, not_true_eq_false, not_false_eq_true, reduceIte, zPo_v, zPo_n, zPo_t, zKl_i, zKl_r, zKl_n, zKl_l, gK_sI, gK_sJ, gK_sR, gK_sIA, gK_sJA, gR_sI, gR_sJ, gJ_sI, gI_sJ, gI_sR, gJ_sR, gR_sIA, gJ_sIA, Nat.reduceLeDiff, Nat.reduceEqDiff, eX6_canBoard_0, eX6_canBoard_1, eX6_canBoard_2, eX6_canBoard_5, eX6_canBoard_6, eX6_canBoard_7, eX6_canBoard_8, eX6_canBoard_11, eX6_canBoard_13, eX6_canBoard_14, eX6_canBoard_15, eX6_canBoard_18, eX6_canBoard_19, eX6_canBoard_20, eX6_canBoard_23, eX6_canBoard_25, eX6_canBoard_26, eX6_canBoard_29, eX6_canBoard_30, eX6_canBoard_31, eX6_canBoard_34, eX6_canBoard_35, eX6_canBoard_38, eX6_canBoard_39, eX6_canBoard_40, eX6_canBoard_41, eX6_canBoard_43, eX6_canBoard_46, eX6_canBoard_49, eX6_canBoard_50, eX6_canBoard_53, eX6_canBoard_54, eX6_canBoard_in, e1]
    split <;> exact hQ
  · have e3 : 8 + 4 * w1 + 3 = 11 + 4 * w1 := by omega
    simp (disch := (first | (simp only [gK_sI, gK_sJ, gK_sR, gK_sIA, gK_sJA, gR_sI, gR_sJ, gR_sIA, Nat.reduceLeDiff, Nat.reduceEqDiff, Nat.reduceLT, Int.reduceLE, Int.reduceLT, Int.reduceEq, zWt_i, zWt_l, zWt_r, zWt_n, P3, zMkk P3, zMr0 P3, zMk0 P3] <;> omega) | omega | fail)) only [if_pos, if_neg, wI_id, zLc_lt, zLc_gt, zLc_eq, zLc_le, zLc_ge, Int.reduceEq, Int.reduceLE, Int.reduceLT, Int.reduceNeg, Int.reduceAdd, Int.reduceMul, Int.reduceSub, not_true_eq_false, not_false_eq_true, reduceIte, zPo_v, zPo_n, zPo_t, zKl_i, zKl_r, zKl_n, zKl_l, gK_sI, gK_sJ, gK_sR, gK_sIA, gK_sJA, gR_sI, gR_sJ, gJ_sI, gI_sJ, gI_sR, gJ_sR, gR_sIA, gJ_sIA, Nat.reduceLeDiff, Nat.reduceEqDiff, eX6_canBoard_0, eX6_canBoard_1, eX6_canBoard_2, eX6_canBoard_5, eX6_canBoard_6, eX6_canBoard_7, eX6_canBoard_8, eX6_canBoard_11, eX6_canBoard_13, eX6_canBoard_14, eX6_canBoard_15, eX6_canBoard_18, eX6_canBoard_19, eX6_canBoard_20, eX6_canBoard_23, eX6_canBoard_25, eX6_canBoard_26, eX6_canBoard_29, eX6_canBoard_30, eX6_canBoard_31, eX6_canBoard_34, eX6_canBoard_35, eX6_canBoard_38, eX6_canBoard_39, eX6_canBoard_40, eX6_canBoard_41, eX6_canBoard_43, eX6_canBoard_46, eX6_canBoard_49, eX6_canBoard_50, eX6_canBoard_53, eX6_canBoard_54, eX6_canBoard_in, P3, zMkk P3, zMr0 P3, zMk0 P3, cM_nationRow, cM_isIn, gI_sIA_ne, e3]
    (repeat' split at hQ) <;> (repeat' split) <;> first | exact hQ | (exfalso; omega)
end M3
