/-! ===== LOGS, 1: the laws ===== -/
set_option maxRecDepth 100000
def zFold {σ : Type} : Nat → Int → (Int → σ → σ) → σ → σ
  | 0, _, _, s => s
  | n + 1, lo, f, s => f (lo + n) (zFold n lo f s)
theorem zFold_next {σ : Type} {f : Int → σ → σ} {s : σ} {lo i : Int} (h : lo ≤ i) : zFold (i + 1 - lo).toNat lo f s = f i (zFold (i - lo).toNat lo f s) := by
  rw [show (i + 1 - lo).toNat = (i - lo).toNat + 1 by omega]
  show f (lo + ((i - lo).toNat : Nat)) _ = _
  rw [show lo + (((i - lo).toNat : Nat) : Int) = i by omega]
def gSx (P : Nat → Bool) : Nat → Int
  | 0 => 0
  | n + 1 => if P n = true then zOr (gSx P n) (zShl 1 n) else zOr (gSx P n) 0
theorem gSx1 : ∀ n, n < 7 → ∀ i, i < n → fOne (gSx (fun k => decide (k = i)) n) = (i : Int) := by decide +kernel
theorem gSx2 : ∀ n, n < 7 → ∀ i, i < n → ∀ j, j < n → i ≠ j → fOne (gSx (fun k => decide (k = i) || decide (k = j)) n) = -1 := by decide +kernel
theorem fSet_bits {a ld : Int → Int} {y m : Int} {P : Nat → Bool} : ∀ n : Nat, (∀ i : Nat, i < n → (fW a ld i y = m ↔ P i = true)) → fSet a ld y m n = gSx P n
  | 0, _ => rfl
  | n + 1, h => by
    show (if fW a ld n y = m then zOr (fSet a ld y m n) (zShl 1 n) else zOr (fSet a ld y m n) 0) = (if P n = true then zOr (gSx P n) (zShl 1 n) else zOr (gSx P n) 0)
    rw [fSet_bits n (fun i hi => h i (by omega))]
    by_cases c : fW a ld n y = m
    · rw [if_pos c, if_pos ((h n (by omega)).mp c)]
    · rw [if_neg c, if_neg (fun q => c ((h n (by omega)).mpr q))]
theorem fMost_le {a ld : Int → Int} {y M : Int} (h0 : 0 ≤ M) : ∀ n : Nat, (∀ i : Nat, i < n → fW a ld i y ≤ M) → fMost a ld y n ≤ M
  | 0, _ => h0
  | n + 1, h => by
    have h1 := fMost_le h0 n (fun i hi => h i (by omega))
    have h2 := h n (by omega)
    show max (fMost a ld y n) (fW a ld n y) ≤ M
    omega
theorem fMost_ge {a ld : Int → Int} {y : Int} : ∀ n : Nat, 0 ≤ fMost a ld y n ∧ ∀ i : Nat, i < n → fW a ld i y ≤ fMost a ld y n
  | 0 => ⟨Int.le_refl _, fun i hi => by omega⟩
  | n + 1 => by
    obtain ⟨h1, h2⟩ := fMost_ge (a := a) (ld := ld) (y := y) n
    show 0 ≤ max (fMost a ld y n) (fW a ld n y) ∧ ∀ i : Nat, i < n + 1 → fW a ld i y ≤ max (fMost a ld y n) (fW a ld n y)
    refine ⟨by omega, fun i hi => ?_⟩
    by_cases e : i = n
    · subst e; omega
    · have := h2 i (by omega); omega
theorem fMost_is {a ld : Int → Int} {y M : Int} {n : Nat} (h0 : 0 ≤ M) (h1 : ∀ i : Nat, i < n → fW a ld i y ≤ M) (h2 : M = 0 ∨ ∃ i : Nat, i < n ∧ fW a ld i y = M) : fMost a ld y n = M := by
  have q1 := fMost_le h0 n h1
  obtain ⟨q2, q3⟩ := fMost_ge (a := a) (ld := ld) (y := y) n
  rcases h2 with h2 | ⟨i, hi, h2⟩
  · omega
  · have := q3 i hi
    omega
theorem zSum_two {f : Int → Int} {g b : Int} (g0 : 0 ≤ g) (gb : g < b) : ∀ n : Nat, (∀ i : Int, 0 ≤ i → i < n → i ≠ g → i ≠ b → f i = 0) → zSum n f = (if g < n then f g else 0) + (if b < n then f b else 0)
  | 0, _ => by
    rw [if_neg (by omega), if_neg (by omega)]
    rfl
  | n + 1, h => by
    show zSum n f + f n = _
    rw [zSum_two g0 gb n (fun i i0 i1 e1 e2 => h i i0 (by omega) e1 e2)]
    by_cases e1 : (n : Int) = g
    · rw [if_neg (by omega), if_neg (by omega), if_pos (by omega), if_neg (by omega), e1]
      omega
    · by_cases e2 : (n : Int) = b
      · rw [if_pos (by omega), if_neg (by omega), if_pos (by omega), if_pos (by omega), e2]
        omega
      · rw [h n (by omega) (by omega) e1 e2]
        by_cases c1 : g < (n : Int) <;> by_cases c2 : b < (n : Int)
        · rw [if_pos c1, if_pos c2, if_pos (by omega), if_pos (by omega)]; omega
        · rw [if_pos c1, if_neg c2, if_pos (by omega), if_neg (by omega)]; omega
        · omega
        · rw [if_neg c1, if_neg c2, if_neg (by omega), if_neg (by omega)]; omega
/-- what tons of a good weigh -/
def fWv (a : Int → Int) (r g x : Int) : Int := if x = 0 then 0 else if r = 0 then x else if r = 1 then 1 else x * a (33 + 3 * g)
def fRo (a : Int → Int) (r g u b w : Int) : Int := if a (32 + 3 * g) = a (32 + 3 * b) then (if 0 < fWv a r g u + fWv a r b w then a (32 + 3 * g) else -1) else if fWv a r b w < fWv a r g u then a (32 + 3 * g) else if fWv a r g u < fWv a r b w then a (32 + 3 * b) else -1
theorem fWv_nn {a : Int → Int} {r g x : Int} (ha : zGd a) (g0 : 0 ≤ g) (g8 : g < 8) (x0 : 0 ≤ x) : 0 ≤ fWv a r g x := by
  have h1 := (ha.2.2.1 g g0 g8).1
  have h2 := Int.mul_nonneg x0 h1
  unfold fWv
  (repeat' split) <;> omega
theorem fW_two {a ld : Int → Int} {r g b n : Int} (g0 : 0 ≤ g) (gb : g < b) (b1 : b < a 1) (ez : ∀ i, 0 ≤ i → i < a 1 → i ≠ g → i ≠ b → ld i = 0) : fW a ld n r = (if a (32 + 3 * g) = n then fWv a r g (ld g) else 0) + (if a (32 + 3 * b) = n then fWv a r b (ld b) else 0) := by
  have key : ∀ i, fWg a ld n r i = if a (32 + 3 * i) = n then fWv a r i (ld i) else 0 := fun i => by
    unfold fWg fWv
    by_cases c1 : a (32 + 3 * i) = n <;> by_cases c2 : ld i = 0
    · rw [if_neg (fun h => h.2 c2), if_pos c1, if_pos c2]
    · rw [if_pos ⟨c1, c2⟩, if_pos c1, if_neg c2]
    · rw [if_neg (fun h => c1 h.1), if_neg c1]
    · rw [if_neg (fun h => c1 h.1), if_neg c1]
  unfold fW
  rw [zSum_two (f := fWg a ld n r) g0 gb _ (fun i i0 i1 e1 e2 => by
    rw [key, ez i i0 (by omega) e1 e2]
    unfold fWv
    rw [if_pos rfl]
    split <;> rfl), if_pos (by omega), if_pos (by omega), key, key]
theorem fRo_law {a ld : Int → Int} {r g b : Int} (ha : zGd a) (n1 : 0 ≤ a (32 + 3 * g) ∧ a (32 + 3 * g) < a 0) (n2 : 0 ≤ a (32 + 3 * b) ∧ a (32 + 3 * b) < a 0) (g0 : 0 ≤ g) (gb : g < b) (b1 : b < a 1) (u0 : 0 ≤ ld g) (w0 : 0 ≤ ld b) (ez : ∀ i, 0 ≤ i → i < a 1 → i ≠ g → i ≠ b → ld i = 0) : fOne (fCap a ld r) = fRo a r g (ld g) b (ld b) := by
  have h0 := ha.1
  have h1 := ha.2.1
  have A0 := fWv_nn (r := r) ha g0 (by omega : g < 8) u0
  have B0 := fWv_nn (r := r) ha (by omega : 0 ≤ b) (by omega : b < 8) w0
  have hW : ∀ n : Int, fW a ld n r = (if a (32 + 3 * g) = n then fWv a r g (ld g) else 0) + (if a (32 + 3 * b) = n then fWv a r b (ld b) else 0) := fun n => fW_two g0 gb b1 ez
  generalize hA : fWv a r g (ld g) = A at hW A0
  generalize hB : fWv a r b (ld b) = B at hW B0
  unfold fRo
  rw [hA, hB]
  generalize hn : a (32 + 3 * g) = na at n1 hW
  generalize hm : a (32 + 3 * b) = nb at n2 hW
  have m1 : ((na.toNat : Nat) : Int) = na := Int.toNat_of_nonneg n1.1
  have m2 : ((nb.toNat : Nat) : Int) = nb := Int.toNat_of_nonneg n2.1
  have capIs : ∀ (M : Int) (P : Nat → Bool), 0 < M → fMost a ld r (a 0).toNat = M → (∀ i : Nat, i < (a 0).toNat → (fW a ld i r = M ↔ P i = true)) → fCap a ld r = gSx P (a 0).toNat := fun M P hM e hp => by
    unfold fCap
    rw [e, if_pos hM]
    exact fSet_bits _ hp
  have cap0 : fMost a ld r (a 0).toNat = 0 → fOne (fCap a ld r) = -1 := fun e => by
    unfold fCap
    rw [e, if_neg (by omega)]
    rfl
  by_cases en : na = nb
  · subst en
    rw [if_pos rfl]
    by_cases c : 0 < A + B
    · rw [if_pos c, capIs (A + B) (fun k => decide (k = na.toNat)) c (fMost_is (by omega) (fun i hi => by rw [hW]; split <;> omega) (Or.inr ⟨na.toNat, by omega, by rw [hW, m1, if_pos rfl, if_pos rfl]⟩)) (fun i hi => by
        rw [hW, decide_eq_true_iff]
        by_cases e : na = (i : Int)
        · rw [if_pos e, if_pos e]
          exact ⟨fun _ => by omega, fun _ => rfl⟩
        · rw [if_neg e, if_neg e]
          exact ⟨fun q => by omega, fun q => by omega⟩), gSx1 _ (by omega) _ (by omega), m1]
    · rw [if_neg c]
      exact cap0 (fMost_is (Int.le_refl _) (fun i hi => by rw [hW]; split <;> omega) (Or.inl rfl))
  · rw [if_neg en]
    by_cases c1 : B < A
    · rw [if_pos c1, capIs A (fun k => decide (k = na.toNat)) (by omega) (fMost_is (by omega) (fun i hi => by rw [hW]; (repeat' split) <;> omega) (Or.inr ⟨na.toNat, by omega, by rw [hW, m1, if_pos rfl, if_neg (fun h => en h.symm)]; omega⟩)) (fun i hi => by
        rw [hW, decide_eq_true_iff]
        by_cases e : na = (i : Int)
        · rw [if_pos e, if_neg (by omega)]
          exact ⟨fun _ => by omega, fun _ => by omega⟩
        · rw [if_neg e]
          refine ⟨fun q => ?_, fun q => by omega⟩
          split at q <;> omega), gSx1 _ (by omega) _ (by omega), m1]
    · rw [if_neg c1]
      by_cases c2 : A < B
      · rw [if_pos c2, capIs B (fun k => decide (k = nb.toNat)) (by omega) (fMost_is (by omega) (fun i hi => by rw [hW]; (repeat' split) <;> omega) (Or.inr ⟨nb.toNat, by omega, by rw [hW, m2, if_pos rfl, if_neg en]; omega⟩)) (fun i hi => by
          rw [hW, decide_eq_true_iff]
          by_cases e : nb = (i : Int)
          · rw [if_pos e, if_neg (by omega)]
            exact ⟨fun _ => by omega, fun _ => by omega⟩
          · rw [if_neg e]
            refine ⟨fun q => ?_, fun q => by omega⟩
            split at q <;> omega), gSx1 _ (by omega) _ (by omega), m2]
      · rw [if_neg c2]
        by_cases c3 : A = 0
        · exact cap0 (fMost_is (Int.le_refl _) (fun i hi => by rw [hW]; (repeat' split) <;> omega) (Or.inl rfl))
        · rw [capIs A (fun k => decide (k = na.toNat) || decide (k = nb.toNat)) (by omega) (fMost_is (by omega) (fun i hi => by rw [hW]; (repeat' split) <;> omega) (Or.inr ⟨na.toNat, by omega, by rw [hW, m1, if_pos rfl, if_neg (fun h => en h.symm)]; omega⟩)) (fun i hi => by
            rw [hW, Bool.or_eq_true, decide_eq_true_iff, decide_eq_true_iff]
            by_cases e : na = (i : Int)
            · rw [if_pos e, if_neg (by omega)]
              exact ⟨fun _ => by omega, fun _ => by omega⟩
            · rw [if_neg e]
              by_cases e' : nb = (i : Int)
              · rw [if_pos e']
                exact ⟨fun _ => by omega, fun _ => by omega⟩
              · rw [if_neg e']
                exact ⟨fun q => by omega, fun q => by omega⟩)]
          exact gSx2 _ (by omega) _ (by omega) _ (by omega) (by omega)
/-- a load of two goods -/
def fTwo (g x b y : Int) : Int → Int := fun i => if i = g then x else if i = b then y else 0
def fLw (a : Int → Int) (d g x b y : Int) : Int := fOne (fCap a (fLk a d (fTwo g x b y)) (a 4))
theorem fLw_b {a : Int → Int} {d g x b y : Int} : -1 ≤ fLw a d g x b y ∧ fLw a d g x b y < 6 := fOne_b
theorem fTwo_g {g x b y : Int} : fTwo g x b y g = x := if_pos rfl
theorem fTwo_b {g x b y : Int} (h : g ≠ b) : fTwo g x b y b = y := by
  unfold fTwo
  rw [if_neg (Ne.symm h), if_pos rfl]
theorem fTwo_0 {g x b y i : Int} (h1 : i ≠ g) (h2 : i ≠ b) : fTwo g x b y i = 0 := by
  unfold fTwo
  rw [if_neg h1, if_neg h2]
theorem zLd_two {g x b y : Int} (hx : 0 ≤ x ∧ x ≤ 60) (hy : 0 ≤ y ∧ y ≤ 60) : zLd (fTwo g x b y) := fun i i0 i1 => by
  unfold fTwo
  (repeat' split) <;> omega
theorem fLw_eq {a : Int → Int} (v : zIv a) {d g x b y : Int} (d0 : 0 ≤ d) (g0 : 0 ≤ g) (gb : g < b) (b1 : b < a 1) : fLw a d g x b y = fRo a (a 4) g (max 0 (x - d * a (34 + 3 * g))) b (max 0 (y - d * a (34 + 3 * b))) := by
  have h1 := (zIgd v).2.1
  have e1 : fLk a d (fTwo g x b y) g = max 0 (x - d * a (34 + 3 * g)) := by
    unfold fLk
    rw [if_pos (by omega), fTwo_g]
  have e2 : fLk a d (fTwo g x b y) b = max 0 (y - d * a (34 + 3 * b)) := by
    unfold fLk
    rw [if_pos (by omega), fTwo_b (by omega)]
  have h9 := fRo_law (a := a) (ld := fLk a d (fTwo g x b y)) (r := a 4) (zIgd v) (zIgn v g g0 (by omega)) (zIgn v b (by omega) b1) g0 gb b1 (by omega) (by omega) (fun i i0 i1 n1 n2 => by
    unfold fLk
    rw [if_pos i1, fTwo_0 n1 n2]
    have := Int.mul_nonneg d0 ((zIgd v).2.2.2 i i0 (by omega)).1
    omega)
  rw [e1, e2] at h9
  exact h9
/-- whether two loads leak by these flags -/
def fLgd (a V : Int → Int) (n g x b y : Int) : Bool := decide (zFst (fun j => decide (fLw a j g x b y ≠ V j)) n.toNat 0 = -1)
abbrev fLs : Type := Int × Int
def fLy (a V : Int → Int) (n g b x : Int) : Int → fLs → fLs := fun y s => if fLgd a V n g x b y = true then (s.1 + 1, zAnd s.2 (zOr (zShl 1 g) (zShl 1 b))) else s
def fLx (a V : Int → Int) (n m g b : Int) : Int → fLs → fLs := fun x s => zFold (m - x).toNat 1 (fLy a V n g b x) s
def fLb (a V : Int → Int) (n m g : Int) : Int → fLs → fLs := fun b s => zFold (m - 1).toNat 1 (fLx a V n m g b) s
def fLa (a V : Int → Int) (n m : Int) : Int → fLs → fLs := fun g s => zFold (a 1 - (g + 1)).toNat (g + 1) (fLb a V n m g) s
def fLg (a V : Int → Int) (n m : Int) : fLs := zFold (a 1).toNat 0 (fLa a V n m) (0, 255)
/-- a log in a tray: 0, or 1, 2, 3, 5 -/
def fWl (a V : Int → Int) (ma t n m : Int) : Int := if (0 ≤ t ∧ t < 4) ∧ (1 ≤ n ∧ n ≤ 20) ∧ 2 ≤ m ∧ m ≤ 60 then (if ma = -1 then 2 else if ma < n then 3 else if zFst (fun j => decide (¬ (-1 ≤ V j ∧ V j ≤ a 0 - 1))) n.toNat 0 = -1 then 0 else 5) else 1
theorem zAnd_assoc {x y z : Int} : zAnd (zAnd x y) z = zAnd x (zAnd y z) := by
  unfold zAnd
  rw [Int32.ofInt_toInt, Int32.ofInt_toInt, Int32.and_assoc]
theorem zMask' : ∀ n : Nat, n < 9 → ∀ g : Nat, g < n → ∀ b : Nat, b < n → zAnd (wI (zShl 1 n - 1)) (zOr (zShl 1 g) (zShl 1 b)) = zOr (zShl 1 g) (zShl 1 b) ∧ zAnd (zOr (zShl 1 g) (zShl 1 b)) (wI (zShl 1 n - 1)) = zOr (zShl 1 g) (zShl 1 b) := by decide +kernel
theorem zMask {n g b : Int} (n0 : 0 ≤ n) (n1 : n ≤ 8) (g0 : 0 ≤ g) (g1 : g < n) (b0 : 0 ≤ b) (b1 : b < n) : zAnd (zOr (zShl 1 g) (zShl 1 b)) (wI (zShl 1 n - 1)) = zOr (zShl 1 g) (zShl 1 b) := by
  have h9 := (zMask' n.toNat (by omega) g.toNat (by omega) b.toNat (by omega)).2
  rw [Int.toNat_of_nonneg n0, Int.toNat_of_nonneg g0, Int.toNat_of_nonneg b0] at h9
  exact h9
theorem zAnd_comm {x y : Int} : zAnd x y = zAnd y x := by
  unfold zAnd
  rw [Int32.and_comm]
section O34
variable {d : Nat} {h : zHp} {Q : zRs → Prop} {a f nm : Int → Int}

theorem kM_leaks {n : Int} (P : zMk h) (v : zIv a) (hl : zLd f) (h0 : 0 ≤ n) (h1 : n ≤ 1000) (hQ : ∀ g, zEq8 g (fLk a n f) → Q (zRn (zH2 h a g))) : zCm mX6_leaks d [zr (some 113), zi n] (zH2 h a f) Q := by
  refine cM_leaks (h := zH2 h a f) P (by rw [zH2_at]; exact zIgd v) (by rw [zH2_ld]; exact hl) h0 h1 (fun g hg => ?_)
  rw [zH2_at, zH2_ld] at hg
  rw [zH2_sld]
  exact hQ g hg
theorem kM_isLogged {t n g x b y : Int} (P : zMk h) (v : zIv a) (t0 : 0 ≤ t) (t1 : t < 4) (n1 : n ≤ 20) (n0 : 0 ≤ n) (x0 : 0 ≤ x) (x1 : x ≤ 60) (y0 : 0 ≤ y) (y1 : y ≤ 60) (hQ : ∀ k9, Q (zRv (zi (if fLgd a (fun j => gJ h 118 (60 * t + j)) n g x b y = true then 1 else 0)) (zH2 h a k9))) : zCm mX6_isLogged d [zr (some 113), zi t, zi n, zi g, zi x, zi b, zi y] (zH2 h a f) Q := by
  simp (disch := (first | (simp only [gK_sI, gK_sJ, gK_sR, gK_sIA, gK_sJA, gR_sI, gR_sJ, gR_sIA, Nat.reduceLeDiff, Nat.reduceEqDiff, Nat.reduceLT, Int.reduceLE, Int.reduceLT, Int.reduceEq, zWt_i, zWt_l, zWt_r, zWt_n] <;> omega) | omega | fail)) only [if_pos, if_neg, wI_id, zLc_lt, zLc_gt, zLc_eq, zLc_le, zLc_ge, Int.reduceEq, Int.reduceLE, Int.reduceLT, Int.reduceNeg, Int.reduceAdd, Int.reduceMul, Int.reduceSub, not_true_eq_false, not_false_eq_true, reduceIte, zPo_v, zPo_n, zPo_t, zKl_i, zKl_r, zKl_n, zKl_l, gK_sI, gK_sJ, gK_sR, gK_sIA, gK_sJA, gR_sI, gR_sJ, gJ_sI, gI_sJ, gI_sR, gJ_sR, gR_sIA, gJ_sIA, Nat.reduceLeDiff, Nat.reduceEqDiff, and_self, and_true, true_and, and_false, false_and, eX6_isLogged_0, eX6_isLogged_1, eX6_isLogged_5, eX6_isLogged_6, eX6_isLogged_9, eX6_isLogged_10, eX6_isLogged_14, eX6_isLogged_16, eX6_isLogged_19, eX6_isLogged_20, eX6_isLogged_23, eX6_isLogged_25, eX6_isLogged_27, eX6_isLogged_28, eX6_isLogged_31, eX6_isLogged_33, eX6_isLogged_36, eX6_isLogged_38, eX6_isLogged_40, eX6_isLogged_43, eX6_isLogged_45, eX6_isLogged_48, eX6_isLogged_49, eX6_isLogged_50, eX6_isLogged_53, eX6_isLogged_56, eX6_isLogged_57, eX6_isLogged_59, eX6_isLogged_62, eX6_isLogged_63, eX6_isLogged_66, eX6_isLogged_67, eX6_isLogged_68, eX6_isLogged_71, eX6_isLogged_73, eX6_isLogged_74, eX6_isLogged_75, eX6_isLogged_77, eX6_isLogged_78, eX6_isLogged_79, eX6_isLogged_80, eX6_isLogged_83, eX6_isLogged_84, eX6_isLogged_85, eX6_isLogged_88, eX6_isLogged_91, eX6_isLogged_92, eX6_isLogged_in]
  refine zLoop n (fun i ls h' => 0 ≤ i ∧ (∀ j, 0 ≤ j → j < i → fLw a j g x b y = gJ h 118 (60 * t + j)) ∧ ∃ F o, h' = zH2 h a F ∧ ls = [some (zr (some 113)), some (zi t), some (zi n), some (zi g), some (zi x), some (zi b), some (zi y), some (zi i), o]) ?_ ?_ 0 _ _ n0 ⟨by omega, fun j j0 j1 => by omega, f, none, rfl, rfl⟩
  · rintro i _ _ hi ⟨i0, hj, F, o, rfl, rfl⟩ k
    rw [eX6_isLogged_3]
    simp (disch := (first | (simp only [gK_sI, gK_sJ, gK_sR, gK_sIA, gK_sJA, gR_sI, gR_sJ, gR_sIA, Nat.reduceLeDiff, Nat.reduceEqDiff, Nat.reduceLT, Int.reduceLE, Int.reduceLT, Int.reduceEq, zWt_i, zWt_l, zWt_r, zWt_n, zH2_gK, zH2_mk, P, zMkk P, zMr7 P, zMk7 P, zMr24 P, zMk24 P] <;> omega) | omega | fail)) only [if_pos, if_neg, wI_id, zLc_lt, zLc_gt, zLc_eq, zLc_le, zLc_ge, Int.reduceEq, Int.reduceLE, Int.reduceLT, Int.reduceNeg, Int.reduceAdd, Int.reduceMul, Int.reduceSub, not_true_eq_false, not_false_eq_true, reduceIte, zPo_v, zPo_n, zPo_t, zKl_i, zKl_r, zKl_n, zKl_l, gK_sI, gK_sJ, gK_sR, gK_sIA, gK_sJA, gR_sI, gR_sJ, gJ_sI, gI_sJ, gI_sR, gJ_sR, gR_sIA, gJ_sIA, Nat.reduceLeDiff, Nat.reduceEqDiff, and_self, and_true, true_and, and_false, false_and, eX6_isLogged_0, eX6_isLogged_1, eX6_isLogged_5, eX6_isLogged_6, eX6_isLogged_9, eX6_isLogged_10, eX6_isLogged_14, eX6_isLogged_16, eX6_isLogged_19, eX6_isLogged_20, eX6_isLogged_23, eX6_isLogged_25, eX6_isLogged_27, eX6_isLogged_28, eX6_isLogged_31, eX6_isLogged_33, eX6_isLogged_36, eX6_isLogged_38, eX6_isLogged_40, eX6_isLogged_43, eX6_isLogged_45, eX6_isLogged_48, eX6_isLogged_49, eX6_isLogged_50, eX6_isLogged_53, eX6_isLogged_56, eX6_isLogged_57, eX6_isLogged_59, eX6_isLogged_62, eX6_isLogged_63, eX6_isLogged_66, eX6_isLogged_67, eX6_isLogged_68, eX6_isLogged_71, eX6_isLogged_73, eX6_isLogged_74, eX6_isLogged_75, eX6_isLogged_77, eX6_isLogged_78, eX6_isLogged_79, eX6_isLogged_80, eX6_isLogged_83, eX6_isLogged_84, eX6_isLogged_85, eX6_isLogged_88, eX6_isLogged_91, eX6_isLogged_92, eX6_isLogged_in, zH2_gK, zH2_gR, zH2_at, zH2_sI, zU_ne, P, zMkk P, zMr7 P, zMk7 P, zMr24 P, zMk24 P]
    refine zLoop 8 (fun q ls h' => 0 ≤ q ∧ ∃ G, h' = zH2 h a G ∧ (∀ z, 0 ≤ z → z < q → G z = fTwo g x b y z) ∧ ls = [some (zr (some 113)), some (zi t), some (zi n), some (zi g), some (zi x), some (zi b), some (zi y), some (zi i), some (zi q)]) ?_ ?_ 0 _ _ (by omega) ⟨by omega, F, rfl, fun z z0 z1 => by omega, rfl⟩
    · rintro q _ _ hq ⟨q0, G, rfl, hG, rfl⟩ k2
      have fin : ∀ w, w = fTwo g x b y q → zEv mX6_isLogged d 12 [some (zr (some 113)), some (zi t), some (zi n), some (zi g), some (zi x), some (zi b), some (zi y), some (zi i), some (zi (q + 1))] [] (zH2 h a (zU G q w)) Q := fun w e => k2 _ _ ⟨by omega, _, rfl, fun z z0 z1 => by
        by_cases ez : z = q
        · rw [ez, zU_eq, e]
        · rw [zU_ne ez]
          exact hG z z0 (by omega), rfl⟩
      rw [eX6_isLogged_12]
      by_cases c1 : q = g
      · simp (disch := (first | (simp only [gK_sI, gK_sJ, gK_sR, gK_sIA, gK_sJA, gR_sI, gR_sJ, gR_sIA, Nat.reduceLeDiff, Nat.reduceEqDiff, Nat.reduceLT, Int.reduceLE, Int.reduceLT, Int.reduceEq, zWt_i, zWt_l, zWt_r, zWt_n, zH2_gK, zH2_mk, P, zMkk P, zMr7 P, zMk7 P, zMr24 P, zMk24 P, c1] <;> omega) | omega | fail)) only [if_pos, if_neg, wI_id, zLc_lt, zLc_gt, zLc_eq, zLc_le, zLc_ge, Int.reduceEq, Int.reduceLE, Int.reduceLT, Int.reduceNeg, Int.reduceAdd, Int.reduceMul, Int.reduceSub, not_true_eq_false, not_false_eq_true, reduceIte, zPo_v, zPo_n, zPo_t, zKl_i, zKl_r, zKl_n, zKl_l, gK_sI, gK_sJ, gK_sR, gK_sIA, gK_sJA, gR_sI, gR_sJ, gJ_sI, gI_sJ, gI_sR, gJ_sR, gR_sIA, gJ_sIA, Nat.reduceLeDiff, Nat.reduceEqDiff, and_self, and_true, true_and, and_false, false_and, eX6_isLogged_0, eX6_isLogged_1, eX6_isLogged_5, eX6_isLogged_6, eX6_isLogged_9, eX6_isLogged_10, eX6_isLogged_14, eX6_isLogged_16, eX6_isLogged_19, eX6_isLogged_20, eX6_isLogged_23, eX6_isLogged_25, eX6_isLogged_27, eX6_isLogged_28, eX6_isLogged_31, eX6_isLogged_33, eX6_isLogged_36, eX6_isLogged_38, eX6_isLogged_40, eX6_isLogged_43, eX6_isLogged_45, eX6_isLogged_48, eX6_isLogged_49, eX6_isLogged_50, eX6_isLogged_53, eX6_isLogged_56, eX6_isLogged_57, eX6_isLogged_59, eX6_isLogged_62, eX6_isLogged_63, eX6_isLogged_66, eX6_isLogged_67, eX6_isLogged_68, eX6_isLogged_71, eX6_isLogged_73, eX6_isLogged_74, eX6_isLogged_75, eX6_isLogged_77, eX6_isLogged_78, eX6_isLogged_79, eX6_isLogged_80, eX6_isLogged_83, eX6_isLogged_84, eX6_isLogged_85, eX6_isLogged_88, eX6_isLogged_91, eX6_isLogged_92, eX6_isLogged_in, zH2_gK, zH2_gR, zH2_at, zH2_sI, zU_ne, P, zMkk P, zMr7 P, zMk7 P, zMr24 P, zMk24 P, c1, zH2_sIl]
        have f9 := fin x (by unfold fTwo; rw [if_pos c1])
        rw [c1] at f9
        exact f9
      · by_cases c2 : q = b
        · simp (disch := (first | (simp only [gK_sI, gK_sJ, gK_sR, gK_sIA, gK_sJA, gR_sI, gR_sJ, gR_sIA, Nat.reduceLeDiff, Nat.reduceEqDiff, Nat.reduceLT, Int.reduceLE, Int.reduceLT, Int.reduceEq, zWt_i, zWt_l, zWt_r, zWt_n, zH2_gK, zH2_mk, P, zMkk P, zMr7 P, zMk7 P, zMr24 P, zMk24 P, c1, c2] <;> omega) | omega | fail)) only [if_pos, if_neg, wI_id, zLc_lt, zLc_gt, zLc_eq, zLc_le, zLc_ge, Int.reduceEq, Int.reduceLE, Int.reduceLT, Int.reduceNeg, Int.reduceAdd, Int.reduceMul, Int.reduceSub, not_true_eq_false, not_false_eq_true, reduceIte, zPo_v, zPo_n, zPo_t, zKl_i, zKl_r, zKl_n, zKl_l, gK_sI, gK_sJ, gK_sR, gK_sIA, gK_sJA, gR_sI, gR_sJ, gJ_sI, gI_sJ, gI_sR, gJ_sR, gR_sIA, gJ_sIA, Nat.reduceLeDiff, Nat.reduceEqDiff, and_self, and_true, true_and, and_false, false_and, eX6_isLogged_0, eX6_isLogged_1, eX6_isLogged_5, eX6_isLogged_6, eX6_isLogged_9, eX6_isLogged_10, eX6_isLogged_14, eX6_isLogged_16, eX6_isLogged_19, eX6_isLogged_20, eX6_isLogged_23, eX6_isLogged_25, eX6_isLogged_27, eX6_isLogged_28, eX6_isLogged_31, eX6_isLogged_33, eX6_isLogged_36, eX6_isLogged_38, eX6_isLogged_40, eX6_isLogged_43, eX6_isLogged_45, eX6_isLogged_48, eX6_isLogged_49, eX6_isLogged_50, eX6_isLogged_53, eX6_isLogged_56, eX6_isLogged_57, eX6_isLogged_59, eX6_isLogged_62, eX6_isLogged_63, eX6_isLogged_66, eX6_isLogged_67, eX6_isLogged_68, eX6_isLogged_71, eX6_isLogged_73, eX6_isLogged_74, eX6_isLogged_75, eX6_isLogged_77, eX6_isLogged_78, eX6_isLogged_79, eX6_isLogged_80, eX6_isLogged_83, eX6_isLogged_84, eX6_isLogged_85, eX6_isLogged_88, eX6_isLogged_91, eX6_isLogged_92, eX6_isLogged_in, zH2_gK, zH2_gR, zH2_at, zH2_sI, zU_ne, P, zMkk P, zMr7 P, zMk7 P, zMr24 P, zMk24 P, c1, c2, zH2_sIl]
          have f9 := fin y (by unfold fTwo; rw [if_neg c1, if_pos c2])
          rw [c2] at f9
          exact f9
        · simp (disch := (first | (simp only [gK_sI, gK_sJ, gK_sR, gK_sIA, gK_sJA, gR_sI, gR_sJ, gR_sIA, Nat.reduceLeDiff, Nat.reduceEqDiff, Nat.reduceLT, Int.reduceLE, Int.reduceLT, Int.reduceEq, zWt_i, zWt_l, zWt_r, zWt_n, zH2_gK, zH2_mk, P, zMkk P, zMr7 P, zMk7 P, zMr24 P, zMk24 P, c1, c2] <;> omega) | omega | fail)) only [if_pos, if_neg, wI_id, zLc_lt, zLc_gt, zLc_eq, zLc_le, zLc_ge, Int.reduceEq, Int.reduceLE, Int.reduceLT, Int.reduceNeg, Int.reduceAdd, Int.reduceMul, Int.reduceSub, not_true_eq_false, not_false_eq_true, reduceIte, zPo_v, zPo_n, zPo_t, zKl_i, zKl_r, zKl_n, zKl_l, gK_sI, gK_sJ, gK_sR, gK_sIA, gK_sJA, gR_sI, gR_sJ, gJ_sI, gI_sJ, gI_sR, gJ_sR, gR_sIA, gJ_sIA, Nat.reduceLeDiff, Nat.reduceEqDiff, and_self, and_true, true_and, and_false, false_and, eX6_isLogged_0, eX6_isLogged_1, eX6_isLogged_5, eX6_isLogged_6, eX6_isLogged_9, eX6_isLogged_10, eX6_isLogged_14, eX6_isLogged_16, eX6_isLogged_19, eX6_isLogged_20, eX6_isLogged_23, eX6_isLogged_25, eX6_isLogged_27, eX6_isLogged_28, eX6_isLogged_31, eX6_isLogged_33, eX6_isLogged_36, eX6_isLogged_38, eX6_isLogged_40, eX6_isLogged_43, eX6_isLogged_45, eX6_isLogged_48, eX6_isLogged_49, eX6_isLogged_50, eX6_isLogged_53, eX6_isLogged_56, eX6_isLogged_57, eX6_isLogged_59, eX6_isLogged_62, eX6_isLogged_63, eX6_isLogged_66, eX6_isLogged_67, eX6_isLogged_68, eX6_isLogged_71, eX6_isLogged_73, eX6_isLogged_74, eX6_isLogged_75, eX6_isLogged_77, eX6_isLogged_78, eX6_isLogged_79, eX6_isLogged_80, eX6_isLogged_83, eX6_isLogged_84, eX6_isLogged_85, eX6_isLogged_88, eX6_isLogged_91, eX6_isLogged_92, eX6_isLogged_in, zH2_gK, zH2_gR, zH2_at, zH2_sI, zU_ne, P, zMkk P, zMr7 P, zMk7 P, zMr24 P, zMk24 P, c1, c2, zH2_sIl]
          exact fin 0 (by unfold fTwo; rw [if_neg c1, if_neg c2])
    · rintro _ _ ⟨-, G, rfl, hG, rfl⟩
      have lG : zLd G := zLd_congr (fun z z0 z1 => hG z z0 z1) (zLd_two (g := g) (b := b) ⟨x0, x1⟩ ⟨y0, y1⟩)
      rw [eX6_isLogged_12]
      simp (disch := (first | (simp only [gK_sI, gK_sJ, gK_sR, gK_sIA, gK_sJA, gR_sI, gR_sJ, gR_sIA, Nat.reduceLeDiff, Nat.reduceEqDiff, Nat.reduceLT, Int.reduceLE, Int.reduceLT, Int.reduceEq, zWt_i, zWt_l, zWt_r, zWt_n, zH2_gK, zH2_mk, P, zMkk P, zMr7 P, zMk7 P, zMr24 P, zMk24 P] <;> omega) | omega | fail)) only [if_pos, if_neg, wI_id, zLc_lt, zLc_gt, zLc_eq, zLc_le, zLc_ge, Int.reduceEq, Int.reduceLE, Int.reduceLT, Int.reduceNeg, Int.reduceAdd, Int.reduceMul, Int.reduceSub, not_true_eq_false, not_false_eq_true, reduceIte, zPo_v, zPo_n, zPo_t, zKl_i, zKl_r, zKl_n, zKl_l, gK_sI, gK_sJ, gK_sR, gK_sIA, gK_sJA, gR_sI, gR_sJ, gJ_sI, gI_sJ, gI_sR, gJ_sR, gR_sIA, gJ_sIA, Nat.reduceLeDiff, Nat.reduceEqDiff, and_self, and_true, true_and, and_false, false_and, eX6_isLogged_0, eX6_isLogged_1, eX6_isLogged_5, eX6_isLogged_6, eX6_isLogged_9, eX6_isLogged_10, eX6_isLogged_14, eX6_isLogged_16, eX6_isLogged_19, eX6_isLogged_20, eX6_isLogged_23, eX6_isLogged_25, eX6_isLogged_27, eX6_isLogged_28, eX6_isLogged_31, eX6_isLogged_33, eX6_isLogged_36, eX6_isLogged_38, eX6_isLogged_40, eX6_isLogged_43, eX6_isLogged_45, eX6_isLogged_48, eX6_isLogged_49, eX6_isLogged_50, eX6_isLogged_53, eX6_isLogged_56, eX6_isLogged_57, eX6_isLogged_59, eX6_isLogged_62, eX6_isLogged_63, eX6_isLogged_66, eX6_isLogged_67, eX6_isLogged_68, eX6_isLogged_71, eX6_isLogged_73, eX6_isLogged_74, eX6_isLogged_75, eX6_isLogged_77, eX6_isLogged_78, eX6_isLogged_79, eX6_isLogged_80, eX6_isLogged_83, eX6_isLogged_84, eX6_isLogged_85, eX6_isLogged_88, eX6_isLogged_91, eX6_isLogged_92, eX6_isLogged_in, zH2_gK, zH2_gR, zH2_at, zH2_sI, zU_ne, P, zMkk P, zMr7 P, zMk7 P, zMr24 P, zMk24 P]
      refine kM_leaks P v lG i0 (by omega) (fun G2 hG2 => ?_)
      have eG : zEq8 G2 (fLk a i (fTwo g x b y)) := fun z z0 z1 => by
        rw [hG2 z z0 z1]
        unfold fLk
        rw [hG z z0 z1]
      have lG2 : zLd (fLk a i (fTwo g x b y)) := zLd_lk i0 (zIgd v) (zLd_two ⟨x0, x1⟩ ⟨y0, y1⟩)
      have ef : fOne (fCap a (fLk a i (fTwo g x b y)) (a 4)) = fLw a i g x b y := rfl
      by_cases c : fLw a i g x b y = gJ h 118 (60 * t + i)
      · simp (disch := (first | (simp only [gK_sI, gK_sJ, gK_sR, gK_sIA, gK_sJA, gR_sI, gR_sJ, gR_sIA, Nat.reduceLeDiff, Nat.reduceEqDiff, Nat.reduceLT, Int.reduceLE, Int.reduceLT, Int.reduceEq, zWt_i, zWt_l, zWt_r, zWt_n, zH2_gK, zH2_mk, P, zMkk P, zMr7 P, zMk7 P, zMr24 P, zMk24 P] <;> omega) | omega | fail)) only [if_pos, if_neg, wI_id, zLc_lt, zLc_gt, zLc_eq, zLc_le, zLc_ge, Int.reduceEq, Int.reduceLE, Int.reduceLT, Int.reduceNeg, Int.reduceAdd, Int.reduceMul, Int.reduceSub, not_true_eq_false, not_false_eq_true, reduceIte, zPo_v, zPo_n, zPo_t, zKl_i, zKl_r, zKl_n, zKl_l, gK_sI, gK_sJ, gK_sR, gK_sIA, gK_sJA, gR_sI, gR_sJ, gJ_sI, gI_sJ, gI_sR, gJ_sR, gR_sIA, gJ_sIA, Nat.reduceLeDiff, Nat.reduceEqDiff, and_self, and_true, true_and, and_false, false_and, eX6_isLogged_0, eX6_isLogged_1, eX6_isLogged_5, eX6_isLogged_6, eX6_isLogged_9, eX6_isLogged_10, eX6_isLogged_14, eX6_isLogged_16, eX6_isLogged_19, eX6_isLogged_20, eX6_isLogged_23, eX6_isLogged_25, eX6_isLogged_27, eX6_isLogged_28, eX6_isLogged_31, eX6_isLogged_33, eX6_isLogged_36, eX6_isLogged_38, eX6_isLogged_40, eX6_isLogged_43, eX6_isLogged_45, eX6_isLogged_48, eX6_isLogged_49, eX6_isLogged_50, eX6_isLogged_53, eX6_isLogged_56, eX6_isLogged_57, eX6_isLogged_59, eX6_isLogged_62, eX6_isLogged_63, eX6_isLogged_66, eX6_isLogged_67, eX6_isLogged_68, eX6_isLogged_71, eX6_isLogged_73, eX6_isLogged_74, eX6_isLogged_75, eX6_isLogged_77, eX6_isLogged_78, eX6_isLogged_79, eX6_isLogged_80, eX6_isLogged_83, eX6_isLogged_84, eX6_isLogged_85, eX6_isLogged_88, eX6_isLogged_91, eX6_isLogged_92, eX6_isLogged_in, zH2_gK, zH2_gR, zH2_at, zH2_sI, zU_ne, P, zMkk P, zMr7 P, zMk7 P, zMr24 P, zMk24 P, kM_flag P v eG lG2, ef, zH2_gJ, c, eq_self]
        refine k _ _ ⟨by omega, fun j j0 j1 => ?_, G2, _, rfl, rfl⟩
        by_cases ej : j = i
        · rw [ej]; exact c
        · exact hj j j0 (by omega)
      · have hn : fLgd a (fun j => gJ h 118 (60 * t + j)) n g x b y ≠ true := fun q9 => by
          unfold fLgd at q9
          rw [zFst_at (t := fun j => decide (fLw a j g x b y ≠ gJ h 118 (60 * t + j))) n.toNat 0 i i0 (by omega) (fun j j0 j1 => decide_eq_false (fun q => q (hj j j0 j1))) (decide_eq_true c)] at q9
          have := of_decide_eq_true q9
          omega
        simp (disch := (first | (simp only [gK_sI, gK_sJ, gK_sR, gK_sIA, gK_sJA, gR_sI, gR_sJ, gR_sIA, Nat.reduceLeDiff, Nat.reduceEqDiff, Nat.reduceLT, Int.reduceLE, Int.reduceLT, Int.reduceEq, zWt_i, zWt_l, zWt_r, zWt_n, zH2_gK, zH2_mk, P, zMkk P, zMr7 P, zMk7 P, zMr24 P, zMk24 P] <;> omega) | omega | fail)) only [if_pos, if_neg, wI_id, zLc_lt, zLc_gt, zLc_eq, zLc_le, zLc_ge, Int.reduceEq, Int.reduceLE, Int.reduceLT, Int.reduceNeg, Int.reduceAdd, Int.reduceMul, Int.reduceSub, not_true_eq_false, not_false_eq_true, reduceIte, zPo_v, zPo_n, zPo_t, zKl_i, zKl_r, zKl_n, zKl_l, gK_sI, gK_sJ, gK_sR, gK_sIA, gK_sJA, gR_sI, gR_sJ, gJ_sI, gI_sJ, gI_sR, gJ_sR, gR_sIA, gJ_sIA, Nat.reduceLeDiff, Nat.reduceEqDiff, and_self, and_true, true_and, and_false, false_and, eX6_isLogged_0, eX6_isLogged_1, eX6_isLogged_5, eX6_isLogged_6, eX6_isLogged_9, eX6_isLogged_10, eX6_isLogged_14, eX6_isLogged_16, eX6_isLogged_19, eX6_isLogged_20, eX6_isLogged_23, eX6_isLogged_25, eX6_isLogged_27, eX6_isLogged_28, eX6_isLogged_31, eX6_isLogged_33, eX6_isLogged_36, eX6_isLogged_38, eX6_isLogged_40, eX6_isLogged_43, eX6_isLogged_45, eX6_isLogged_48, eX6_isLogged_49, eX6_isLogged_50, eX6_isLogged_53, eX6_isLogged_56, eX6_isLogged_57, eX6_isLogged_59, eX6_isLogged_62, eX6_isLogged_63, eX6_isLogged_66, eX6_isLogged_67, eX6_isLogged_68, eX6_isLogged_71, eX6_isLogged_73, eX6_isLogged_74, eX6_isLogged_75, eX6_isLogged_77, eX6_isLogged_78, eX6_isLogged_79, eX6_isLogged_80, eX6_isLogged_83, eX6_isLogged_84, eX6_isLogged_85, eX6_isLogged_88, eX6_isLogged_91, eX6_isLogged_92, eX6_isLogged_in, zH2_gK, zH2_gR, zH2_at, zH2_sI, zU_ne, P, zMkk P, zMr7 P, zMk7 P, zMr24 P, zMk24 P, kM_flag P v eG lG2, ef, zH2_gJ, c]
        have h9 := hQ G2
        rw [if_neg hn] at h9
        exact h9
  · rintro _ _ ⟨-, hj, F, o, rfl, rfl⟩
    have hy : fLgd a (fun j => gJ h 118 (60 * t + j)) n g x b y = true := by
      unfold fLgd
      rw [decide_eq_true_iff]
      exact zFst_no n.toNat 0 (fun j j0 j1 => decide_eq_false (fun q => q (hj j j0 (by omega))))
    rw [eX6_isLogged_3]
    simp (disch := (first | (simp only [gK_sI, gK_sJ, gK_sR, gK_sIA, gK_sJA, gR_sI, gR_sJ, gR_sIA, Nat.reduceLeDiff, Nat.reduceEqDiff, Nat.reduceLT, Int.reduceLE, Int.reduceLT, Int.reduceEq, zWt_i, zWt_l, zWt_r, zWt_n, zH2_gK, zH2_mk, P, zMkk P, zMr7 P, zMk7 P, zMr24 P, zMk24 P] <;> omega) | omega | fail)) only [if_pos, if_neg, wI_id, zLc_lt, zLc_gt, zLc_eq, zLc_le, zLc_ge, Int.reduceEq, Int.reduceLE, Int.reduceLT, Int.reduceNeg, Int.reduceAdd, Int.reduceMul, Int.reduceSub, not_true_eq_false, not_false_eq_true, reduceIte, zPo_v, zPo_n, zPo_t, zKl_i, zKl_r, zKl_n, zKl_l, gK_sI, gK_sJ, gK_sR, gK_sIA, gK_sJA, gR_sI, gR_sJ, gJ_sI, gI_sJ, gI_sR, gJ_sR, gR_sIA, gJ_sIA, Nat.reduceLeDiff, Nat.reduceEqDiff, and_self, and_true, true_and, and_false, false_and, eX6_isLogged_0, eX6_isLogged_1, eX6_isLogged_5, eX6_isLogged_6, eX6_isLogged_9, eX6_isLogged_10, eX6_isLogged_14, eX6_isLogged_16, eX6_isLogged_19, eX6_isLogged_20, eX6_isLogged_23, eX6_isLogged_25, eX6_isLogged_27, eX6_isLogged_28, eX6_isLogged_31, eX6_isLogged_33, eX6_isLogged_36, eX6_isLogged_38, eX6_isLogged_40, eX6_isLogged_43, eX6_isLogged_45, eX6_isLogged_48, eX6_isLogged_49, eX6_isLogged_50, eX6_isLogged_53, eX6_isLogged_56, eX6_isLogged_57, eX6_isLogged_59, eX6_isLogged_62, eX6_isLogged_63, eX6_isLogged_66, eX6_isLogged_67, eX6_isLogged_68, eX6_isLogged_71, eX6_isLogged_73, eX6_isLogged_74, eX6_isLogged_75, eX6_isLogged_77, eX6_isLogged_78, eX6_isLogged_79, eX6_isLogged_80, eX6_isLogged_83, eX6_isLogged_84, eX6_isLogged_85, eX6_isLogged_88, eX6_isLogged_91, eX6_isLogged_92, eX6_isLogged_in, zH2_gK, zH2_gR, zH2_at, zH2_sI, zU_ne, P, zMkk P, zMr7 P, zMk7 P, zMr24 P, zMk24 P]
    have h9 := hQ F
    rw [if_pos hy] at h9
    exact h9
theorem kM_laysLog {t n m : Int} (P : zMk h) (v : zIv a) (t0 : 0 ≤ t) (t1 : t < 4) (n1 : n ≤ 20) (n0 : 0 ≤ n) (m0 : 2 ≤ m) (m1 : m ≤ 60) (hQ : ∀ h1 k9, zSm h h1 → gI h1 113 33 = (fLg a (fun j => gJ h 118 (60 * t + j)) n m).1 → gI h1 113 34 = (fLg a (fun j => gJ h 118 (60 * t + j)) n m).2 → Q (zRn (zH2 h1 a k9))) : zCm mX6_laysLog d [zr (some 113), zi t, zi n, zi m] (zH2 h a f) Q := by
  have b1 := (zIgd v).2.1
  generalize hV : (fun j => gJ h 118 (60 * t + j)) = V at hQ
  have P1 : ∀ x, zMk (sI h 113 33 x) := fun _ => P
  simp (disch := (first | (simp only [gK_sI, gK_sJ, gK_sR, gK_sIA, gK_sJA, gR_sI, gR_sJ, gR_sIA, Nat.reduceLeDiff, Nat.reduceEqDiff, Nat.reduceLT, Int.reduceLE, Int.reduceLT, Int.reduceEq, zWt_i, zWt_l, zWt_r, zWt_n, zH2_gK, zH2_mk, P, zMkk P, zMr0 P, zMk0 P] <;> omega) | omega | fail)) only [if_pos, if_neg, wI_id, zLc_lt, zLc_gt, zLc_eq, zLc_le, zLc_ge, Int.reduceEq, Int.reduceLE, Int.reduceLT, Int.reduceNeg, Int.reduceAdd, Int.reduceMul, Int.reduceSub, not_true_eq_false, not_false_eq_true, reduceIte, zPo_v, zPo_n, zPo_t, zKl_i, zKl_r, zKl_n, zKl_l, gK_sI, gK_sJ, gK_sR, gK_sIA, gK_sJA, gR_sI, gR_sJ, gJ_sI, gI_sJ, gI_sR, gJ_sR, gR_sIA, gJ_sIA, Nat.reduceLeDiff, Nat.reduceEqDiff, and_self, and_true, true_and, and_false, false_and, eX6_laysLog_0, eX6_laysLog_1, eX6_laysLog_2, eX6_laysLog_5, eX6_laysLog_6, eX6_laysLog_9, eX6_laysLog_12, eX6_laysLog_13, eX6_laysLog_17, eX6_laysLog_18, eX6_laysLog_21, eX6_laysLog_22, eX6_laysLog_23, eX6_laysLog_26, eX6_laysLog_28, eX6_laysLog_29, eX6_laysLog_30, eX6_laysLog_34, eX6_laysLog_35, eX6_laysLog_38, eX6_laysLog_39, eX6_laysLog_40, eX6_laysLog_43, eX6_laysLog_44, eX6_laysLog_48, eX6_laysLog_49, eX6_laysLog_52, eX6_laysLog_53, eX6_laysLog_57, eX6_laysLog_59, eX6_laysLog_60, eX6_laysLog_61, eX6_laysLog_64, eX6_laysLog_65, eX6_laysLog_66, eX6_laysLog_67, eX6_laysLog_69, eX6_laysLog_71, eX6_laysLog_73, eX6_laysLog_75, eX6_laysLog_78, eX6_laysLog_81, eX6_laysLog_84, eX6_laysLog_85, eX6_laysLog_86, eX6_laysLog_89, eX6_laysLog_90, eX6_laysLog_91, eX6_laysLog_94, eX6_laysLog_95, eX6_laysLog_96, eX6_laysLog_99, eX6_laysLog_100, eX6_laysLog_102, eX6_laysLog_103, eX6_laysLog_104, eX6_laysLog_106, eX6_laysLog_107, eX6_laysLog_108, eX6_laysLog_109, eX6_laysLog_112, eX6_laysLog_115, eX6_laysLog_118, eX6_laysLog_121, eX6_laysLog_124, eX6_laysLog_127, eX6_laysLog_130, eX6_laysLog_133, eX6_laysLog_136, eX6_laysLog_in, zH2_gK, zH2_gR, zH2_at, zH2_sI, zU_ne, P, zMkk P, zMr0 P, zMk0 P, zH2_sIne, gK_sI]
  have IN : ∀ (h1 : zHp) (s : fLs), (gI h1 113 33 = s.1 ∧ gI h1 113 34 = s.2) → (gI h1 113 33 = s.1 ∧ gI h1 113 34 = s.2) := fun _ _ q => q
  refine zLoop (a 1) (fun g ls h' => 0 ≤ g ∧ ∃ h1 k9 o5 o6 o7, zSm h h1 ∧ h' = zH2 h1 a k9 ∧ (gI h1 113 33 = (zFold (g - 0).toNat 0 (fLa a V n m) (0, 255)).1 ∧ gI h1 113 34 = (zFold (g - 0).toNat 0 (fLa a V n m) (0, 255)).2) ∧ (0 ≤ gI h1 113 33 ∧ gI h1 113 33 ≤ 28800 * g) ∧ ls = [some (zr (some 113)), some (zi t), some (zi n), some (zi m), some (zi g), o5, o6, o7]) ?_ ?_ 0 _ _ b1.1 ⟨by omega, sI (sI h 113 33 0) 113 34 255, f, none, none, none, zSm_sI (zSm_sI zSm_rf (by decide)) (by decide), rfl, ⟨by rw [gI_sI_eq, zU_ne (by decide), gI_sI_eq, zU_eq]; rfl, by rw [gI_sI_eq, zU_eq]; rfl⟩, by rw [gI_sI_eq, zU_ne (by decide), gI_sI_eq, zU_eq]; omega, rfl⟩
  · rintro g _ _ hg ⟨g0, h1, k9, o5, o6, o7, S1, rfl, ⟨u1, u2⟩, ub, rfl⟩ kA
    have Q1 := zMk_sm S1 P
    rw [eX6_laysLog_15]
    simp (disch := (first | (simp only [gK_sI, gK_sJ, gK_sR, gK_sIA, gK_sJA, gR_sI, gR_sJ, gR_sIA, Nat.reduceLeDiff, Nat.reduceEqDiff, Nat.reduceLT, Int.reduceLE, Int.reduceLT, Int.reduceEq, zWt_i, zWt_l, zWt_r, zWt_n, zH2_gK, zH2_mk, Q1, zMkk Q1, zMr0 Q1, zMk0 Q1] <;> omega) | omega | fail)) only [if_pos, if_neg, wI_id, zLc_lt, zLc_gt, zLc_eq, zLc_le, zLc_ge, Int.reduceEq, Int.reduceLE, Int.reduceLT, Int.reduceNeg, Int.reduceAdd, Int.reduceMul, Int.reduceSub, not_true_eq_false, not_false_eq_true, reduceIte, zPo_v, zPo_n, zPo_t, zKl_i, zKl_r, zKl_n, zKl_l, gK_sI, gK_sJ, gK_sR, gK_sIA, gK_sJA, gR_sI, gR_sJ, gJ_sI, gI_sJ, gI_sR, gJ_sR, gR_sIA, gJ_sIA, Nat.reduceLeDiff, Nat.reduceEqDiff, and_self, and_true, true_and, and_false, false_and, eX6_laysLog_0, eX6_laysLog_1, eX6_laysLog_2, eX6_laysLog_5, eX6_laysLog_6, eX6_laysLog_9, eX6_laysLog_12, eX6_laysLog_13, eX6_laysLog_17, eX6_laysLog_18, eX6_laysLog_21, eX6_laysLog_22, eX6_laysLog_23, eX6_laysLog_26, eX6_laysLog_28, eX6_laysLog_29, eX6_laysLog_30, eX6_laysLog_34, eX6_laysLog_35, eX6_laysLog_38, eX6_laysLog_39, eX6_laysLog_40, eX6_laysLog_43, eX6_laysLog_44, eX6_laysLog_48, eX6_laysLog_49, eX6_laysLog_52, eX6_laysLog_53, eX6_laysLog_57, eX6_laysLog_59, eX6_laysLog_60, eX6_laysLog_61, eX6_laysLog_64, eX6_laysLog_65, eX6_laysLog_66, eX6_laysLog_67, eX6_laysLog_69, eX6_laysLog_71, eX6_laysLog_73, eX6_laysLog_75, eX6_laysLog_78, eX6_laysLog_81, eX6_laysLog_84, eX6_laysLog_85, eX6_laysLog_86, eX6_laysLog_89, eX6_laysLog_90, eX6_laysLog_91, eX6_laysLog_94, eX6_laysLog_95, eX6_laysLog_96, eX6_laysLog_99, eX6_laysLog_100, eX6_laysLog_102, eX6_laysLog_103, eX6_laysLog_104, eX6_laysLog_106, eX6_laysLog_107, eX6_laysLog_108, eX6_laysLog_109, eX6_laysLog_112, eX6_laysLog_115, eX6_laysLog_118, eX6_laysLog_121, eX6_laysLog_124, eX6_laysLog_127, eX6_laysLog_130, eX6_laysLog_133, eX6_laysLog_136, eX6_laysLog_in, zH2_gK, zH2_gR, zH2_at, zH2_sI, zU_ne, Q1, zMkk Q1, zMr0 Q1, zMk0 Q1]
    generalize hsA : zFold (g - 0).toNat 0 (fLa a V n m) (0, 255) = sA at u1 u2
    refine zLoop (a 1) (fun b ls h' => g + 1 ≤ b ∧ ∃ h1 k9 o6 o7, zSm h h1 ∧ h' = zH2 h1 a k9 ∧ (gI h1 113 33 = (zFold (b - (g + 1)).toNat (g + 1) (fLb a V n m g) sA).1 ∧ gI h1 113 34 = (zFold (b - (g + 1)).toNat (g + 1) (fLb a V n m g) sA).2) ∧ (0 ≤ gI h1 113 33 ∧ gI h1 113 33 ≤ 28800 * g + 3600 * (b - (g + 1))) ∧ ls = [some (zr (some 113)), some (zi t), some (zi n), some (zi m), some (zi g), some (zi b), o6, o7]) ?_ ?_ (g + 1) _ _ (by omega) ⟨by omega, h1, k9, _, _, S1, rfl, by rw [show (g + 1 - (g + 1)).toNat = 0 by omega]; exact ⟨u1, u2⟩, by omega, rfl⟩
    · rintro b _ _ hb ⟨b0, h1, k9, o6, o7, S1, rfl, ⟨u1, u2⟩, ub, rfl⟩ kB
      have Q1 := zMk_sm S1 P
      rw [eX6_laysLog_32]
      simp (disch := (first | (simp only [gK_sI, gK_sJ, gK_sR, gK_sIA, gK_sJA, gR_sI, gR_sJ, gR_sIA, Nat.reduceLeDiff, Nat.reduceEqDiff, Nat.reduceLT, Int.reduceLE, Int.reduceLT, Int.reduceEq, zWt_i, zWt_l, zWt_r, zWt_n, zH2_gK, zH2_mk, Q1, zMkk Q1, zMr0 Q1, zMk0 Q1] <;> omega) | omega | fail)) only [if_pos, if_neg, wI_id, zLc_lt, zLc_gt, zLc_eq, zLc_le, zLc_ge, Int.reduceEq, Int.reduceLE, Int.reduceLT, Int.reduceNeg, Int.reduceAdd, Int.reduceMul, Int.reduceSub, not_true_eq_false, not_false_eq_true, reduceIte, zPo_v, zPo_n, zPo_t, zKl_i, zKl_r, zKl_n, zKl_l, gK_sI, gK_sJ, gK_sR, gK_sIA, gK_sJA, gR_sI, gR_sJ, gJ_sI, gI_sJ, gI_sR, gJ_sR, gR_sIA, gJ_sIA, Nat.reduceLeDiff, Nat.reduceEqDiff, and_self, and_true, true_and, and_false, false_and, eX6_laysLog_0, eX6_laysLog_1, eX6_laysLog_2, eX6_laysLog_5, eX6_laysLog_6, eX6_laysLog_9, eX6_laysLog_12, eX6_laysLog_13, eX6_laysLog_17, eX6_laysLog_18, eX6_laysLog_21, eX6_laysLog_22, eX6_laysLog_23, eX6_laysLog_26, eX6_laysLog_28, eX6_laysLog_29, eX6_laysLog_30, eX6_laysLog_34, eX6_laysLog_35, eX6_laysLog_38, eX6_laysLog_39, eX6_laysLog_40, eX6_laysLog_43, eX6_laysLog_44, eX6_laysLog_48, eX6_laysLog_49, eX6_laysLog_52, eX6_laysLog_53, eX6_laysLog_57, eX6_laysLog_59, eX6_laysLog_60, eX6_laysLog_61, eX6_laysLog_64, eX6_laysLog_65, eX6_laysLog_66, eX6_laysLog_67, eX6_laysLog_69, eX6_laysLog_71, eX6_laysLog_73, eX6_laysLog_75, eX6_laysLog_78, eX6_laysLog_81, eX6_laysLog_84, eX6_laysLog_85, eX6_laysLog_86, eX6_laysLog_89, eX6_laysLog_90, eX6_laysLog_91, eX6_laysLog_94, eX6_laysLog_95, eX6_laysLog_96, eX6_laysLog_99, eX6_laysLog_100, eX6_laysLog_102, eX6_laysLog_103, eX6_laysLog_104, eX6_laysLog_106, eX6_laysLog_107, eX6_laysLog_108, eX6_laysLog_109, eX6_laysLog_112, eX6_laysLog_115, eX6_laysLog_118, eX6_laysLog_121, eX6_laysLog_124, eX6_laysLog_127, eX6_laysLog_130, eX6_laysLog_133, eX6_laysLog_136, eX6_laysLog_in, zH2_gK, zH2_gR, zH2_at, zH2_sI, zU_ne, Q1, zMkk Q1, zMr0 Q1, zMk0 Q1]
      generalize hsB : zFold (b - (g + 1)).toNat (g + 1) (fLb a V n m g) sA = sB at u1 u2
      refine zLoop m (fun x ls h' => 1 ≤ x ∧ ∃ h1 k9 o7, zSm h h1 ∧ h' = zH2 h1 a k9 ∧ (gI h1 113 33 = (zFold (x - 1).toNat 1 (fLx a V n m g b) sB).1 ∧ gI h1 113 34 = (zFold (x - 1).toNat 1 (fLx a V n m g b) sB).2) ∧ (0 ≤ gI h1 113 33 ∧ gI h1 113 33 ≤ 28800 * g + 3600 * (b - (g + 1)) + 60 * (x - 1)) ∧ ls = [some (zr (some 113)), some (zi t), some (zi n), some (zi m), some (zi g), some (zi b), some (zi x), o7]) ?_ ?_ 1 _ _ (by omega) ⟨by omega, h1, k9, _, S1, rfl, ⟨u1, u2⟩, by omega, rfl⟩
      · rintro x _ _ hx ⟨x0, h1, k9, o7, S1, rfl, ⟨u1, u2⟩, ub, rfl⟩ kX
        have Q1 := zMk_sm S1 P
        rw [eX6_laysLog_46]
        simp (disch := (first | (simp only [gK_sI, gK_sJ, gK_sR, gK_sIA, gK_sJA, gR_sI, gR_sJ, gR_sIA, Nat.reduceLeDiff, Nat.reduceEqDiff, Nat.reduceLT, Int.reduceLE, Int.reduceLT, Int.reduceEq, zWt_i, zWt_l, zWt_r, zWt_n, zH2_gK, zH2_mk, Q1, zMkk Q1, zMr0 Q1, zMk0 Q1] <;> omega) | omega | fail)) only [if_pos, if_neg, wI_id, zLc_lt, zLc_gt, zLc_eq, zLc_le, zLc_ge, Int.reduceEq, Int.reduceLE, Int.reduceLT, Int.reduceNeg, Int.reduceAdd, Int.reduceMul, Int.reduceSub, not_true_eq_false, not_false_eq_true, reduceIte, zPo_v, zPo_n, zPo_t, zKl_i, zKl_r, zKl_n, zKl_l, gK_sI, gK_sJ, gK_sR, gK_sIA, gK_sJA, gR_sI, gR_sJ, gJ_sI, gI_sJ, gI_sR, gJ_sR, gR_sIA, gJ_sIA, Nat.reduceLeDiff, Nat.reduceEqDiff, and_self, and_true, true_and, and_false, false_and, eX6_laysLog_0, eX6_laysLog_1, eX6_laysLog_2, eX6_laysLog_5, eX6_laysLog_6, eX6_laysLog_9, eX6_laysLog_12, eX6_laysLog_13, eX6_laysLog_17, eX6_laysLog_18, eX6_laysLog_21, eX6_laysLog_22, eX6_laysLog_23, eX6_laysLog_26, eX6_laysLog_28, eX6_laysLog_29, eX6_laysLog_30, eX6_laysLog_34, eX6_laysLog_35, eX6_laysLog_38, eX6_laysLog_39, eX6_laysLog_40, eX6_laysLog_43, eX6_laysLog_44, eX6_laysLog_48, eX6_laysLog_49, eX6_laysLog_52, eX6_laysLog_53, eX6_laysLog_57, eX6_laysLog_59, eX6_laysLog_60, eX6_laysLog_61, eX6_laysLog_64, eX6_laysLog_65, eX6_laysLog_66, eX6_laysLog_67, eX6_laysLog_69, eX6_laysLog_71, eX6_laysLog_73, eX6_laysLog_75, eX6_laysLog_78, eX6_laysLog_81, eX6_laysLog_84, eX6_laysLog_85, eX6_laysLog_86, eX6_laysLog_89, eX6_laysLog_90, eX6_laysLog_91, eX6_laysLog_94, eX6_laysLog_95, eX6_laysLog_96, eX6_laysLog_99, eX6_laysLog_100, eX6_laysLog_102, eX6_laysLog_103, eX6_laysLog_104, eX6_laysLog_106, eX6_laysLog_107, eX6_laysLog_108, eX6_laysLog_109, eX6_laysLog_112, eX6_laysLog_115, eX6_laysLog_118, eX6_laysLog_121, eX6_laysLog_124, eX6_laysLog_127, eX6_laysLog_130, eX6_laysLog_133, eX6_laysLog_136, eX6_laysLog_in, zH2_gK, zH2_gR, zH2_at, zH2_sI, zU_ne, Q1, zMkk Q1, zMr0 Q1, zMk0 Q1]
        generalize hsX : zFold (x - 1).toNat 1 (fLx a V n m g b) sB = sX at u1 u2
        refine zLoop (m - x + 1) (fun y ls h' => 1 ≤ y ∧ ∃ h1 k9, zSm h h1 ∧ h' = zH2 h1 a k9 ∧ (gI h1 113 33 = (zFold (y - 1).toNat 1 (fLy a V n g b x) sX).1 ∧ gI h1 113 34 = (zFold (y - 1).toNat 1 (fLy a V n g b x) sX).2) ∧ (0 ≤ gI h1 113 33 ∧ gI h1 113 33 ≤ 28800 * g + 3600 * (b - (g + 1)) + 60 * (x - 1) + (y - 1)) ∧ ls = [some (zr (some 113)), some (zi t), some (zi n), some (zi m), some (zi g), some (zi b), some (zi x), some (zi y)]) ?_ ?_ 1 _ _ (by omega) ⟨by omega, h1, k9, S1, rfl, ⟨u1, u2⟩, by omega, rfl⟩
        · rintro y _ _ hy ⟨y0, h1, k9, S1, rfl, ⟨u1, u2⟩, ub, rfl⟩ kY
          have Q1 := zMk_sm S1 P
          have eJ : gJ h1 = gJ h := S1.2.2.2.1
          have c9 : ¬ (m < x + y) := by omega
          rw [eX6_laysLog_55]
          simp (disch := (first | (simp only [gK_sI, gK_sJ, gK_sR, gK_sIA, gK_sJA, gR_sI, gR_sJ, gR_sIA, Nat.reduceLeDiff, Nat.reduceEqDiff, Nat.reduceLT, Int.reduceLE, Int.reduceLT, Int.reduceEq, zWt_i, zWt_l, zWt_r, zWt_n, zH2_gK, zH2_mk, Q1, zMkk Q1, zMr0 Q1, zMk0 Q1, c9] <;> omega) | omega | fail)) only [if_pos, if_neg, wI_id, zLc_lt, zLc_gt, zLc_eq, zLc_le, zLc_ge, Int.reduceEq, Int.reduceLE, Int.reduceLT, Int.reduceNeg, Int.reduceAdd, Int.reduceMul, Int.reduceSub, not_true_eq_false, not_false_eq_true, reduceIte, zPo_v, zPo_n, zPo_t, zKl_i, zKl_r, zKl_n, zKl_l, gK_sI, gK_sJ, gK_sR, gK_sIA, gK_sJA, gR_sI, gR_sJ, gJ_sI, gI_sJ, gI_sR, gJ_sR, gR_sIA, gJ_sIA, Nat.reduceLeDiff, Nat.reduceEqDiff, and_self, and_true, true_and, and_false, false_and, eX6_laysLog_0, eX6_laysLog_1, eX6_laysLog_2, eX6_laysLog_5, eX6_laysLog_6, eX6_laysLog_9, eX6_laysLog_12, eX6_laysLog_13, eX6_laysLog_17, eX6_laysLog_18, eX6_laysLog_21, eX6_laysLog_22, eX6_laysLog_23, eX6_laysLog_26, eX6_laysLog_28, eX6_laysLog_29, eX6_laysLog_30, eX6_laysLog_34, eX6_laysLog_35, eX6_laysLog_38, eX6_laysLog_39, eX6_laysLog_40, eX6_laysLog_43, eX6_laysLog_44, eX6_laysLog_48, eX6_laysLog_49, eX6_laysLog_52, eX6_laysLog_53, eX6_laysLog_57, eX6_laysLog_59, eX6_laysLog_60, eX6_laysLog_61, eX6_laysLog_64, eX6_laysLog_65, eX6_laysLog_66, eX6_laysLog_67, eX6_laysLog_69, eX6_laysLog_71, eX6_laysLog_73, eX6_laysLog_75, eX6_laysLog_78, eX6_laysLog_81, eX6_laysLog_84, eX6_laysLog_85, eX6_laysLog_86, eX6_laysLog_89, eX6_laysLog_90, eX6_laysLog_91, eX6_laysLog_94, eX6_laysLog_95, eX6_laysLog_96, eX6_laysLog_99, eX6_laysLog_100, eX6_laysLog_102, eX6_laysLog_103, eX6_laysLog_104, eX6_laysLog_106, eX6_laysLog_107, eX6_laysLog_108, eX6_laysLog_109, eX6_laysLog_112, eX6_laysLog_115, eX6_laysLog_118, eX6_laysLog_121, eX6_laysLog_124, eX6_laysLog_127, eX6_laysLog_130, eX6_laysLog_133, eX6_laysLog_136, eX6_laysLog_in, zH2_gK, zH2_gR, zH2_at, zH2_sI, zU_ne, Q1, zMkk Q1, zMr0 Q1, zMk0 Q1, c9]
          refine kM_isLogged Q1 v t0 t1 n1 n0 (by omega) (by omega) (by omega) (by omega) (fun k8 => ?_)
          rw [eJ, hV]
          have nx : zFold (y + 1 - 1).toNat 1 (fLy a V n g b x) sX = fLy a V n g b x y (zFold (y - 1).toNat 1 (fLy a V n g b x) sX) := zFold_next y0
          by_cases c : fLgd a V n g x b y = true
          · rw [if_pos c]
            have e1 : ∀ k7 j, gI (zH2 h1 a k7) 113 j = gI h1 113 j := fun k7 j => by rw [zH2_ne (by decide) (by decide)]
            simp (disch := (first | (simp only [gK_sI, gK_sJ, gK_sR, gK_sIA, gK_sJA, gR_sI, gR_sJ, gR_sIA, Nat.reduceLeDiff, Nat.reduceEqDiff, Nat.reduceLT, Int.reduceLE, Int.reduceLT, Int.reduceEq, zWt_i, zWt_l, zWt_r, zWt_n, zH2_gK, zH2_mk, Q1, zMkk Q1, zMr0 Q1, zMk0 Q1, ub.1, ub.2] <;> omega) | omega | fail)) only [if_pos, if_neg, wI_id, zLc_lt, zLc_gt, zLc_eq, zLc_le, zLc_ge, Int.reduceEq, Int.reduceLE, Int.reduceLT, Int.reduceNeg, Int.reduceAdd, Int.reduceMul, Int.reduceSub, not_true_eq_false, not_false_eq_true, reduceIte, zPo_v, zPo_n, zPo_t, zKl_i, zKl_r, zKl_n, zKl_l, gK_sI, gK_sJ, gK_sR, gK_sIA, gK_sJA, gR_sI, gR_sJ, gJ_sI, gI_sJ, gI_sR, gJ_sR, gR_sIA, gJ_sIA, Nat.reduceLeDiff, Nat.reduceEqDiff, and_self, and_true, true_and, and_false, false_and, eX6_laysLog_0, eX6_laysLog_1, eX6_laysLog_2, eX6_laysLog_5, eX6_laysLog_6, eX6_laysLog_9, eX6_laysLog_12, eX6_laysLog_13, eX6_laysLog_17, eX6_laysLog_18, eX6_laysLog_21, eX6_laysLog_22, eX6_laysLog_23, eX6_laysLog_26, eX6_laysLog_28, eX6_laysLog_29, eX6_laysLog_30, eX6_laysLog_34, eX6_laysLog_35, eX6_laysLog_38, eX6_laysLog_39, eX6_laysLog_40, eX6_laysLog_43, eX6_laysLog_44, eX6_laysLog_48, eX6_laysLog_49, eX6_laysLog_52, eX6_laysLog_53, eX6_laysLog_57, eX6_laysLog_59, eX6_laysLog_60, eX6_laysLog_61, eX6_laysLog_64, eX6_laysLog_65, eX6_laysLog_66, eX6_laysLog_67, eX6_laysLog_69, eX6_laysLog_71, eX6_laysLog_73, eX6_laysLog_75, eX6_laysLog_78, eX6_laysLog_81, eX6_laysLog_84, eX6_laysLog_85, eX6_laysLog_86, eX6_laysLog_89, eX6_laysLog_90, eX6_laysLog_91, eX6_laysLog_94, eX6_laysLog_95, eX6_laysLog_96, eX6_laysLog_99, eX6_laysLog_100, eX6_laysLog_102, eX6_laysLog_103, eX6_laysLog_104, eX6_laysLog_106, eX6_laysLog_107, eX6_laysLog_108, eX6_laysLog_109, eX6_laysLog_112, eX6_laysLog_115, eX6_laysLog_118, eX6_laysLog_121, eX6_laysLog_124, eX6_laysLog_127, eX6_laysLog_130, eX6_laysLog_133, eX6_laysLog_136, eX6_laysLog_in, zH2_gK, zH2_gR, zH2_at, zH2_sI, zU_ne, Q1, zMkk Q1, zMr0 Q1, zMk0 Q1, zH2_sIne, gK_sI, zH2_ne, gI_sI_eq, zU_ne, u1, u2]
            rw [← u1]
            refine kY _ _ ⟨by omega, _, k8, zSm_sI (zSm_sI S1 (by decide)) (by decide), rfl, ?_, ?_, rfl⟩
            · rw [nx]
              unfold fLy
              rw [if_pos c, gI_sI_eq, zU_ne (by decide), zU_eq, gI_sI_eq, zU_eq, u1]
              exact ⟨rfl, rfl⟩
            · rw [gI_sI_eq, zU_ne (by decide), gI_sI_eq, zU_eq]
              omega
          · rw [if_neg c]
            simp (disch := (first | (simp only [gK_sI, gK_sJ, gK_sR, gK_sIA, gK_sJA, gR_sI, gR_sJ, gR_sIA, Nat.reduceLeDiff, Nat.reduceEqDiff, Nat.reduceLT, Int.reduceLE, Int.reduceLT, Int.reduceEq, zWt_i, zWt_l, zWt_r, zWt_n, zH2_gK, zH2_mk, Q1, zMkk Q1, zMr0 Q1, zMk0 Q1] <;> omega) | omega | fail)) only [if_pos, if_neg, wI_id, zLc_lt, zLc_gt, zLc_eq, zLc_le, zLc_ge, Int.reduceEq, Int.reduceLE, Int.reduceLT, Int.reduceNeg, Int.reduceAdd, Int.reduceMul, Int.reduceSub, not_true_eq_false, not_false_eq_true, reduceIte, zPo_v, zPo_n, zPo_t, zKl_i, zKl_r, zKl_n, zKl_l, gK_sI, gK_sJ, gK_sR, gK_sIA, gK_sJA, gR_sI, gR_sJ, gJ_sI, gI_sJ, gI_sR, gJ_sR, gR_sIA, gJ_sIA, Nat.reduceLeDiff, Nat.reduceEqDiff, and_self, and_true, true_and, and_false, false_and, eX6_laysLog_0, eX6_laysLog_1, eX6_laysLog_2, eX6_laysLog_5, eX6_laysLog_6, eX6_laysLog_9, eX6_laysLog_12, eX6_laysLog_13, eX6_laysLog_17, eX6_laysLog_18, eX6_laysLog_21, eX6_laysLog_22, eX6_laysLog_23, eX6_laysLog_26, eX6_laysLog_28, eX6_laysLog_29, eX6_laysLog_30, eX6_laysLog_34, eX6_laysLog_35, eX6_laysLog_38, eX6_laysLog_39, eX6_laysLog_40, eX6_laysLog_43, eX6_laysLog_44, eX6_laysLog_48, eX6_laysLog_49, eX6_laysLog_52, eX6_laysLog_53, eX6_laysLog_57, eX6_laysLog_59, eX6_laysLog_60, eX6_laysLog_61, eX6_laysLog_64, eX6_laysLog_65, eX6_laysLog_66, eX6_laysLog_67, eX6_laysLog_69, eX6_laysLog_71, eX6_laysLog_73, eX6_laysLog_75, eX6_laysLog_78, eX6_laysLog_81, eX6_laysLog_84, eX6_laysLog_85, eX6_laysLog_86, eX6_laysLog_89, eX6_laysLog_90, eX6_laysLog_91, eX6_laysLog_94, eX6_laysLog_95, eX6_laysLog_96, eX6_laysLog_99, eX6_laysLog_100, eX6_laysLog_102, eX6_laysLog_103, eX6_laysLog_104, eX6_laysLog_106, eX6_laysLog_107, eX6_laysLog_108, eX6_laysLog_109, eX6_laysLog_112, eX6_laysLog_115, eX6_laysLog_118, eX6_laysLog_121, eX6_laysLog_124, eX6_laysLog_127, eX6_laysLog_130, eX6_laysLog_133, eX6_laysLog_136, eX6_laysLog_in, zH2_gK, zH2_gR, zH2_at, zH2_sI, zU_ne, Q1, zMkk Q1, zMr0 Q1, zMk0 Q1]
            refine kY _ _ ⟨by omega, h1, k8, S1, rfl, ?_, by omega, rfl⟩
            rw [nx]
            unfold fLy
            rw [if_neg c]
            exact ⟨u1, u2⟩
        · rintro _ _ ⟨-, h1, k9, S1, rfl, ⟨u1, u2⟩, ub, rfl⟩
          have Q1 := zMk_sm S1 P
          have c9 : m < x + (m - x + 1) := by omega
          rw [eX6_laysLog_55]
          simp (disch := (first | (simp only [gK_sI, gK_sJ, gK_sR, gK_sIA, gK_sJA, gR_sI, gR_sJ, gR_sIA, Nat.reduceLeDiff, Nat.reduceEqDiff, Nat.reduceLT, Int.reduceLE, Int.reduceLT, Int.reduceEq, zWt_i, zWt_l, zWt_r, zWt_n, zH2_gK, zH2_mk, Q1, zMkk Q1, zMr0 Q1, zMk0 Q1, c9] <;> omega) | omega | fail)) only [if_pos, if_neg, wI_id, zLc_lt, zLc_gt, zLc_eq, zLc_le, zLc_ge, Int.reduceEq, Int.reduceLE, Int.reduceLT, Int.reduceNeg, Int.reduceAdd, Int.reduceMul, Int.reduceSub, not_true_eq_false, not_false_eq_true, reduceIte, zPo_v, zPo_n, zPo_t, zKl_i, zKl_r, zKl_n, zKl_l, gK_sI, gK_sJ, gK_sR, gK_sIA, gK_sJA, gR_sI, gR_sJ, gJ_sI, gI_sJ, gI_sR, gJ_sR, gR_sIA, gJ_sIA, Nat.reduceLeDiff, Nat.reduceEqDiff, and_self, and_true, true_and, and_false, false_and, eX6_laysLog_0, eX6_laysLog_1, eX6_laysLog_2, eX6_laysLog_5, eX6_laysLog_6, eX6_laysLog_9, eX6_laysLog_12, eX6_laysLog_13, eX6_laysLog_17, eX6_laysLog_18, eX6_laysLog_21, eX6_laysLog_22, eX6_laysLog_23, eX6_laysLog_26, eX6_laysLog_28, eX6_laysLog_29, eX6_laysLog_30, eX6_laysLog_34, eX6_laysLog_35, eX6_laysLog_38, eX6_laysLog_39, eX6_laysLog_40, eX6_laysLog_43, eX6_laysLog_44, eX6_laysLog_48, eX6_laysLog_49, eX6_laysLog_52, eX6_laysLog_53, eX6_laysLog_57, eX6_laysLog_59, eX6_laysLog_60, eX6_laysLog_61, eX6_laysLog_64, eX6_laysLog_65, eX6_laysLog_66, eX6_laysLog_67, eX6_laysLog_69, eX6_laysLog_71, eX6_laysLog_73, eX6_laysLog_75, eX6_laysLog_78, eX6_laysLog_81, eX6_laysLog_84, eX6_laysLog_85, eX6_laysLog_86, eX6_laysLog_89, eX6_laysLog_90, eX6_laysLog_91, eX6_laysLog_94, eX6_laysLog_95, eX6_laysLog_96, eX6_laysLog_99, eX6_laysLog_100, eX6_laysLog_102, eX6_laysLog_103, eX6_laysLog_104, eX6_laysLog_106, eX6_laysLog_107, eX6_laysLog_108, eX6_laysLog_109, eX6_laysLog_112, eX6_laysLog_115, eX6_laysLog_118, eX6_laysLog_121, eX6_laysLog_124, eX6_laysLog_127, eX6_laysLog_130, eX6_laysLog_133, eX6_laysLog_136, eX6_laysLog_in, zH2_gK, zH2_gR, zH2_at, zH2_sI, zU_ne, Q1, zMkk Q1, zMr0 Q1, zMk0 Q1, c9]
          refine kX _ _ ⟨by omega, h1, k9, _, S1, rfl, ?_, by omega, rfl⟩
          rw [zFold_next x0, hsX, u1, u2, show m - x + 1 - 1 = m - x by omega]
          exact ⟨rfl, rfl⟩
      · rintro _ _ ⟨-, h1, k9, o7, S1, rfl, ⟨u1, u2⟩, ub, rfl⟩
        have Q1 := zMk_sm S1 P
        rw [eX6_laysLog_46]
        simp (disch := (first | (simp only [gK_sI, gK_sJ, gK_sR, gK_sIA, gK_sJA, gR_sI, gR_sJ, gR_sIA, Nat.reduceLeDiff, Nat.reduceEqDiff, Nat.reduceLT, Int.reduceLE, Int.reduceLT, Int.reduceEq, zWt_i, zWt_l, zWt_r, zWt_n, zH2_gK, zH2_mk, Q1, zMkk Q1, zMr0 Q1, zMk0 Q1] <;> omega) | omega | fail)) only [if_pos, if_neg, wI_id, zLc_lt, zLc_gt, zLc_eq, zLc_le, zLc_ge, Int.reduceEq, Int.reduceLE, Int.reduceLT, Int.reduceNeg, Int.reduceAdd, Int.reduceMul, Int.reduceSub, not_true_eq_false, not_false_eq_true, reduceIte, zPo_v, zPo_n, zPo_t, zKl_i, zKl_r, zKl_n, zKl_l, gK_sI, gK_sJ, gK_sR, gK_sIA, gK_sJA, gR_sI, gR_sJ, gJ_sI, gI_sJ, gI_sR, gJ_sR, gR_sIA, gJ_sIA, Nat.reduceLeDiff, Nat.reduceEqDiff, and_self, and_true, true_and, and_false, false_and, eX6_laysLog_0, eX6_laysLog_1, eX6_laysLog_2, eX6_laysLog_5, eX6_laysLog_6, eX6_laysLog_9, eX6_laysLog_12, eX6_laysLog_13, eX6_laysLog_17, eX6_laysLog_18, eX6_laysLog_21, eX6_laysLog_22, eX6_laysLog_23, eX6_laysLog_26, eX6_laysLog_28, eX6_laysLog_29, eX6_laysLog_30, eX6_laysLog_34, eX6_laysLog_35, eX6_laysLog_38, eX6_laysLog_39, eX6_laysLog_40, eX6_laysLog_43, eX6_laysLog_44, eX6_laysLog_48, eX6_laysLog_49, eX6_laysLog_52, eX6_laysLog_53, eX6_laysLog_57, eX6_laysLog_59, eX6_laysLog_60, eX6_laysLog_61, eX6_laysLog_64, eX6_laysLog_65, eX6_laysLog_66, eX6_laysLog_67, eX6_laysLog_69, eX6_laysLog_71, eX6_laysLog_73, eX6_laysLog_75, eX6_laysLog_78, eX6_laysLog_81, eX6_laysLog_84, eX6_laysLog_85, eX6_laysLog_86, eX6_laysLog_89, eX6_laysLog_90, eX6_laysLog_91, eX6_laysLog_94, eX6_laysLog_95, eX6_laysLog_96, eX6_laysLog_99, eX6_laysLog_100, eX6_laysLog_102, eX6_laysLog_103, eX6_laysLog_104, eX6_laysLog_106, eX6_laysLog_107, eX6_laysLog_108, eX6_laysLog_109, eX6_laysLog_112, eX6_laysLog_115, eX6_laysLog_118, eX6_laysLog_121, eX6_laysLog_124, eX6_laysLog_127, eX6_laysLog_130, eX6_laysLog_133, eX6_laysLog_136, eX6_laysLog_in, zH2_gK, zH2_gR, zH2_at, zH2_sI, zU_ne, Q1, zMkk Q1, zMr0 Q1, zMk0 Q1]
        refine kB _ _ ⟨by omega, h1, k9, _, _, S1, rfl, ?_, by omega, rfl⟩
        rw [zFold_next b0, hsB, u1, u2]
        exact ⟨rfl, rfl⟩
    · rintro _ _ ⟨-, h1, k9, o6, o7, S1, rfl, ⟨u1, u2⟩, ub, rfl⟩
      have Q1 := zMk_sm S1 P
      rw [eX6_laysLog_32]
      simp (disch := (first | (simp only [gK_sI, gK_sJ, gK_sR, gK_sIA, gK_sJA, gR_sI, gR_sJ, gR_sIA, Nat.reduceLeDiff, Nat.reduceEqDiff, Nat.reduceLT, Int.reduceLE, Int.reduceLT, Int.reduceEq, zWt_i, zWt_l, zWt_r, zWt_n, zH2_gK, zH2_mk, Q1, zMkk Q1, zMr0 Q1, zMk0 Q1] <;> omega) | omega | fail)) only [if_pos, if_neg, wI_id, zLc_lt, zLc_gt, zLc_eq, zLc_le, zLc_ge, Int.reduceEq, Int.reduceLE, Int.reduceLT, Int.reduceNeg, Int.reduceAdd, Int.reduceMul, Int.reduceSub, not_true_eq_false, not_false_eq_true, reduceIte, zPo_v, zPo_n, zPo_t, zKl_i, zKl_r, zKl_n, zKl_l, gK_sI, gK_sJ, gK_sR, gK_sIA, gK_sJA, gR_sI, gR_sJ, gJ_sI, gI_sJ, gI_sR, gJ_sR, gR_sIA, gJ_sIA, Nat.reduceLeDiff, Nat.reduceEqDiff, and_self, and_true, true_and, and_false, false_and, eX6_laysLog_0, eX6_laysLog_1, eX6_laysLog_2, eX6_laysLog_5, eX6_laysLog_6, eX6_laysLog_9, eX6_laysLog_12, eX6_laysLog_13, eX6_laysLog_17, eX6_laysLog_18, eX6_laysLog_21, eX6_laysLog_22, eX6_laysLog_23, eX6_laysLog_26, eX6_laysLog_28, eX6_laysLog_29, eX6_laysLog_30, eX6_laysLog_34, eX6_laysLog_35, eX6_laysLog_38, eX6_laysLog_39, eX6_laysLog_40, eX6_laysLog_43, eX6_laysLog_44, eX6_laysLog_48, eX6_laysLog_49, eX6_laysLog_52, eX6_laysLog_53, eX6_laysLog_57, eX6_laysLog_59, eX6_laysLog_60, eX6_laysLog_61, eX6_laysLog_64, eX6_laysLog_65, eX6_laysLog_66, eX6_laysLog_67, eX6_laysLog_69, eX6_laysLog_71, eX6_laysLog_73, eX6_laysLog_75, eX6_laysLog_78, eX6_laysLog_81, eX6_laysLog_84, eX6_laysLog_85, eX6_laysLog_86, eX6_laysLog_89, eX6_laysLog_90, eX6_laysLog_91, eX6_laysLog_94, eX6_laysLog_95, eX6_laysLog_96, eX6_laysLog_99, eX6_laysLog_100, eX6_laysLog_102, eX6_laysLog_103, eX6_laysLog_104, eX6_laysLog_106, eX6_laysLog_107, eX6_laysLog_108, eX6_laysLog_109, eX6_laysLog_112, eX6_laysLog_115, eX6_laysLog_118, eX6_laysLog_121, eX6_laysLog_124, eX6_laysLog_127, eX6_laysLog_130, eX6_laysLog_133, eX6_laysLog_136, eX6_laysLog_in, zH2_gK, zH2_gR, zH2_at, zH2_sI, zU_ne, Q1, zMkk Q1, zMr0 Q1, zMk0 Q1]
      refine kA _ _ ⟨by omega, h1, k9, _, _, _, S1, rfl, ?_, by omega, rfl⟩
      rw [zFold_next g0, hsA, u1, u2]
      exact ⟨rfl, rfl⟩
  · rintro _ _ ⟨-, h1, k9, o5, o6, o7, S1, rfl, ⟨u1, u2⟩, ub, rfl⟩
    have Q1 := zMk_sm S1 P
    rw [eX6_laysLog_15]
    simp (disch := (first | (simp only [gK_sI, gK_sJ, gK_sR, gK_sIA, gK_sJA, gR_sI, gR_sJ, gR_sIA, Nat.reduceLeDiff, Nat.reduceEqDiff, Nat.reduceLT, Int.reduceLE, Int.reduceLT, Int.reduceEq, zWt_i, zWt_l, zWt_r, zWt_n, zH2_gK, zH2_mk, Q1, zMkk Q1, zMr0 Q1, zMk0 Q1] <;> omega) | omega | fail)) only [if_pos, if_neg, wI_id, zLc_lt, zLc_gt, zLc_eq, zLc_le, zLc_ge, Int.reduceEq, Int.reduceLE, Int.reduceLT, Int.reduceNeg, Int.reduceAdd, Int.reduceMul, Int.reduceSub, not_true_eq_false, not_false_eq_true, reduceIte, zPo_v, zPo_n, zPo_t, zKl_i, zKl_r, zKl_n, zKl_l, gK_sI, gK_sJ, gK_sR, gK_sIA, gK_sJA, gR_sI, gR_sJ, gJ_sI, gI_sJ, gI_sR, gJ_sR, gR_sIA, gJ_sIA, Nat.reduceLeDiff, Nat.reduceEqDiff, and_self, and_true, true_and, and_false, false_and, eX6_laysLog_0, eX6_laysLog_1, eX6_laysLog_2, eX6_laysLog_5, eX6_laysLog_6, eX6_laysLog_9, eX6_laysLog_12, eX6_laysLog_13, eX6_laysLog_17, eX6_laysLog_18, eX6_laysLog_21, eX6_laysLog_22, eX6_laysLog_23, eX6_laysLog_26, eX6_laysLog_28, eX6_laysLog_29, eX6_laysLog_30, eX6_laysLog_34, eX6_laysLog_35, eX6_laysLog_38, eX6_laysLog_39, eX6_laysLog_40, eX6_laysLog_43, eX6_laysLog_44, eX6_laysLog_48, eX6_laysLog_49, eX6_laysLog_52, eX6_laysLog_53, eX6_laysLog_57, eX6_laysLog_59, eX6_laysLog_60, eX6_laysLog_61, eX6_laysLog_64, eX6_laysLog_65, eX6_laysLog_66, eX6_laysLog_67, eX6_laysLog_69, eX6_laysLog_71, eX6_laysLog_73, eX6_laysLog_75, eX6_laysLog_78, eX6_laysLog_81, eX6_laysLog_84, eX6_laysLog_85, eX6_laysLog_86, eX6_laysLog_89, eX6_laysLog_90, eX6_laysLog_91, eX6_laysLog_94, eX6_laysLog_95, eX6_laysLog_96, eX6_laysLog_99, eX6_laysLog_100, eX6_laysLog_102, eX6_laysLog_103, eX6_laysLog_104, eX6_laysLog_106, eX6_laysLog_107, eX6_laysLog_108, eX6_laysLog_109, eX6_laysLog_112, eX6_laysLog_115, eX6_laysLog_118, eX6_laysLog_121, eX6_laysLog_124, eX6_laysLog_127, eX6_laysLog_130, eX6_laysLog_133, eX6_laysLog_136, eX6_laysLog_in, zH2_gK, zH2_gR, zH2_at, zH2_sI, zU_ne, Q1, zMkk Q1, zMr0 Q1, zMk0 Q1]
    rw [show a 1 - 0 = a 1 by omega] at u1 u2
    exact hQ h1 k9 S1 u1 u2
theorem kM_wrongLog {t n m : Int} (P : zMk h) (v : zIv a) (hQ : Q (zRv (zi (fWl a (fun j => gJ h 118 (60 * t + j)) (gI h 117 t) t n m)) (zH2 h a f))) : zCm mX6_wrongLog d [zr (some 113), zi t, zi n, zi m] (zH2 h a f) Q := by
  have b0 := (zIgd v).1
  unfold fWl at hQ
  by_cases c1 : 0 ≤ t ∧ t < 4
  · by_cases c2 : 1 ≤ n ∧ n ≤ 20
    · by_cases c3 : 2 ≤ m ∧ m ≤ 60
      · rw [if_pos ⟨c1, c2, c3⟩] at hQ
        have e1 : ∀ j, gI (zH2 h a f) 117 j = gI h 117 j := fun j => by rw [zH2_ne (by decide) (by decide)]
        by_cases c4 : gI h 117 t = -1
        · rw [if_pos c4] at hQ
          simp (disch := (first | (simp only [gK_sI, gK_sJ, gK_sR, gK_sIA, gK_sJA, gR_sI, gR_sJ, gR_sIA, Nat.reduceLeDiff, Nat.reduceEqDiff, Nat.reduceLT, Int.reduceLE, Int.reduceLT, Int.reduceEq, zWt_i, zWt_l, zWt_r, zWt_n, zH2_gK, zH2_mk, P, zMkk P, zMr0 P, zMk0 P, zMr6 P, zMk6 P, zMr7 P, zMk7 P, c1.1, c1.2, c2.1, c2.2, c3.1, c3.2] <;> omega) | omega | fail)) only [if_pos, if_neg, wI_id, zLc_lt, zLc_gt, zLc_eq, zLc_le, zLc_ge, Int.reduceEq, Int.reduceLE, Int.reduceLT, Int.reduceNeg, Int.reduceAdd, Int.reduceMul, Int.reduceSub, not_true_eq_false, not_false_eq_true, reduceIte, zPo_v, zPo_n, zPo_t, zKl_i, zKl_r, zKl_n, zKl_l, gK_sI, gK_sJ, gK_sR, gK_sIA, gK_sJA, gR_sI, gR_sJ, gJ_sI, gI_sJ, gI_sR, gJ_sR, gR_sIA, gJ_sIA, Nat.reduceLeDiff, Nat.reduceEqDiff, and_self, and_true, true_and, and_false, false_and, eX6_wrongLog_0, eX6_wrongLog_1, eX6_wrongLog_4, eX6_wrongLog_7, eX6_wrongLog_8, eX6_wrongLog_9, eX6_wrongLog_10, eX6_wrongLog_13, eX6_wrongLog_16, eX6_wrongLog_19, eX6_wrongLog_20, eX6_wrongLog_21, eX6_wrongLog_24, eX6_wrongLog_27, eX6_wrongLog_30, eX6_wrongLog_33, eX6_wrongLog_34, eX6_wrongLog_35, eX6_wrongLog_36, eX6_wrongLog_39, eX6_wrongLog_40, eX6_wrongLog_41, eX6_wrongLog_42, eX6_wrongLog_45, eX6_wrongLog_46, eX6_wrongLog_47, eX6_wrongLog_48, eX6_wrongLog_51, eX6_wrongLog_52, eX6_wrongLog_53, eX6_wrongLog_54, eX6_wrongLog_57, eX6_wrongLog_58, eX6_wrongLog_59, eX6_wrongLog_60, eX6_wrongLog_64, eX6_wrongLog_65, eX6_wrongLog_68, eX6_wrongLog_69, eX6_wrongLog_72, eX6_wrongLog_74, eX6_wrongLog_75, eX6_wrongLog_76, eX6_wrongLog_78, eX6_wrongLog_79, eX6_wrongLog_80, eX6_wrongLog_83, eX6_wrongLog_84, eX6_wrongLog_87, eX6_wrongLog_88, eX6_wrongLog_89, eX6_wrongLog_90, eX6_wrongLog_91, eX6_wrongLog_92, eX6_wrongLog_95, eX6_wrongLog_98, eX6_wrongLog_99, eX6_wrongLog_100, eX6_wrongLog_103, eX6_wrongLog_106, eX6_wrongLog_107, eX6_wrongLog_in, zH2_gK, zH2_gR, zH2_at, zH2_sI, zU_ne, P, zMkk P, zMr0 P, zMk0 P, zMr6 P, zMk6 P, zMr7 P, zMk7 P, cM_isTray, cM_isFrom, e1, c4]
          exact hQ
        · rw [if_neg c4] at hQ
          by_cases c5 : gI h 117 t < n
          · rw [if_pos c5] at hQ
            have c5' : ¬ n ≤ gI h 117 t := by omega
            simp (disch := (first | (simp only [gK_sI, gK_sJ, gK_sR, gK_sIA, gK_sJA, gR_sI, gR_sJ, gR_sIA, Nat.reduceLeDiff, Nat.reduceEqDiff, Nat.reduceLT, Int.reduceLE, Int.reduceLT, Int.reduceEq, zWt_i, zWt_l, zWt_r, zWt_n, zH2_gK, zH2_mk, P, zMkk P, zMr0 P, zMk0 P, zMr6 P, zMk6 P, zMr7 P, zMk7 P, c1.1, c1.2, c2.1, c2.2, c3.1, c3.2, c5'] <;> omega) | omega | fail)) only [if_pos, if_neg, wI_id, zLc_lt, zLc_gt, zLc_eq, zLc_le, zLc_ge, Int.reduceEq, Int.reduceLE, Int.reduceLT, Int.reduceNeg, Int.reduceAdd, Int.reduceMul, Int.reduceSub, not_true_eq_false, not_false_eq_true, reduceIte, zPo_v, zPo_n, zPo_t, zKl_i, zKl_r, zKl_n, zKl_l, gK_sI, gK_sJ, gK_sR, gK_sIA, gK_sJA, gR_sI, gR_sJ, gJ_sI, gI_sJ, gI_sR, gJ_sR, gR_sIA, gJ_sIA, Nat.reduceLeDiff, Nat.reduceEqDiff, and_self, and_true, true_and, and_false, false_and, eX6_wrongLog_0, eX6_wrongLog_1, eX6_wrongLog_4, eX6_wrongLog_7, eX6_wrongLog_8, eX6_wrongLog_9, eX6_wrongLog_10, eX6_wrongLog_13, eX6_wrongLog_16, eX6_wrongLog_19, eX6_wrongLog_20, eX6_wrongLog_21, eX6_wrongLog_24, eX6_wrongLog_27, eX6_wrongLog_30, eX6_wrongLog_33, eX6_wrongLog_34, eX6_wrongLog_35, eX6_wrongLog_36, eX6_wrongLog_39, eX6_wrongLog_40, eX6_wrongLog_41, eX6_wrongLog_42, eX6_wrongLog_45, eX6_wrongLog_46, eX6_wrongLog_47, eX6_wrongLog_48, eX6_wrongLog_51, eX6_wrongLog_52, eX6_wrongLog_53, eX6_wrongLog_54, eX6_wrongLog_57, eX6_wrongLog_58, eX6_wrongLog_59, eX6_wrongLog_60, eX6_wrongLog_64, eX6_wrongLog_65, eX6_wrongLog_68, eX6_wrongLog_69, eX6_wrongLog_72, eX6_wrongLog_74, eX6_wrongLog_75, eX6_wrongLog_76, eX6_wrongLog_78, eX6_wrongLog_79, eX6_wrongLog_80, eX6_wrongLog_83, eX6_wrongLog_84, eX6_wrongLog_87, eX6_wrongLog_88, eX6_wrongLog_89, eX6_wrongLog_90, eX6_wrongLog_91, eX6_wrongLog_92, eX6_wrongLog_95, eX6_wrongLog_98, eX6_wrongLog_99, eX6_wrongLog_100, eX6_wrongLog_103, eX6_wrongLog_106, eX6_wrongLog_107, eX6_wrongLog_in, zH2_gK, zH2_gR, zH2_at, zH2_sI, zU_ne, P, zMkk P, zMr0 P, zMk0 P, zMr6 P, zMk6 P, zMr7 P, zMk7 P, cM_isTray, cM_isFrom, e1, c4, c5']
            exact hQ
          · rw [if_neg c5] at hQ
            have c5' : n ≤ gI h 117 t := by omega
            simp (disch := (first | (simp only [gK_sI, gK_sJ, gK_sR, gK_sIA, gK_sJA, gR_sI, gR_sJ, gR_sIA, Nat.reduceLeDiff, Nat.reduceEqDiff, Nat.reduceLT, Int.reduceLE, Int.reduceLT, Int.reduceEq, zWt_i, zWt_l, zWt_r, zWt_n, zH2_gK, zH2_mk, P, zMkk P, zMr0 P, zMk0 P, zMr6 P, zMk6 P, zMr7 P, zMk7 P, c1.1, c1.2, c2.1, c2.2, c3.1, c3.2, c5'] <;> omega) | omega | fail)) only [if_pos, if_neg, wI_id, zLc_lt, zLc_gt, zLc_eq, zLc_le, zLc_ge, Int.reduceEq, Int.reduceLE, Int.reduceLT, Int.reduceNeg, Int.reduceAdd, Int.reduceMul, Int.reduceSub, not_true_eq_false, not_false_eq_true, reduceIte, zPo_v, zPo_n, zPo_t, zKl_i, zKl_r, zKl_n, zKl_l, gK_sI, gK_sJ, gK_sR, gK_sIA, gK_sJA, gR_sI, gR_sJ, gJ_sI, gI_sJ, gI_sR, gJ_sR, gR_sIA, gJ_sIA, Nat.reduceLeDiff, Nat.reduceEqDiff, and_self, and_true, true_and, and_false, false_and, eX6_wrongLog_0, eX6_wrongLog_1, eX6_wrongLog_4, eX6_wrongLog_7, eX6_wrongLog_8, eX6_wrongLog_9, eX6_wrongLog_10, eX6_wrongLog_13, eX6_wrongLog_16, eX6_wrongLog_19, eX6_wrongLog_20, eX6_wrongLog_21, eX6_wrongLog_24, eX6_wrongLog_27, eX6_wrongLog_30, eX6_wrongLog_33, eX6_wrongLog_34, eX6_wrongLog_35, eX6_wrongLog_36, eX6_wrongLog_39, eX6_wrongLog_40, eX6_wrongLog_41, eX6_wrongLog_42, eX6_wrongLog_45, eX6_wrongLog_46, eX6_wrongLog_47, eX6_wrongLog_48, eX6_wrongLog_51, eX6_wrongLog_52, eX6_wrongLog_53, eX6_wrongLog_54, eX6_wrongLog_57, eX6_wrongLog_58, eX6_wrongLog_59, eX6_wrongLog_60, eX6_wrongLog_64, eX6_wrongLog_65, eX6_wrongLog_68, eX6_wrongLog_69, eX6_wrongLog_72, eX6_wrongLog_74, eX6_wrongLog_75, eX6_wrongLog_76, eX6_wrongLog_78, eX6_wrongLog_79, eX6_wrongLog_80, eX6_wrongLog_83, eX6_wrongLog_84, eX6_wrongLog_87, eX6_wrongLog_88, eX6_wrongLog_89, eX6_wrongLog_90, eX6_wrongLog_91, eX6_wrongLog_92, eX6_wrongLog_95, eX6_wrongLog_98, eX6_wrongLog_99, eX6_wrongLog_100, eX6_wrongLog_103, eX6_wrongLog_106, eX6_wrongLog_107, eX6_wrongLog_in, zH2_gK, zH2_gR, zH2_at, zH2_sI, zU_ne, P, zMkk P, zMr0 P, zMk0 P, zMr6 P, zMk6 P, zMr7 P, zMk7 P, cM_isTray, cM_isFrom, e1, c4, c5']
            refine zLoop n (fun i ls h' => h' = zH2 h a f ∧ 0 ≤ i ∧ (∀ j, 0 ≤ j → j < i → -1 ≤ gJ h 118 (60 * t + j) ∧ gJ h 118 (60 * t + j) ≤ a 0 - 1) ∧ ls = [some (zr (some 113)), some (zi t), some (zi n), some (zi m), some (zi i)]) ?_ ?_ 0 _ _ (by omega) ⟨rfl, by omega, fun j j0 j1 => by omega, rfl⟩
            · rintro i _ _ hi ⟨rfl, i0, hj, rfl⟩ k
              rw [eX6_wrongLog_62]
              by_cases c : -1 ≤ gJ h 118 (60 * t + i) ∧ gJ h 118 (60 * t + i) ≤ a 0 - 1
              · simp (disch := (first | (simp only [gK_sI, gK_sJ, gK_sR, gK_sIA, gK_sJA, gR_sI, gR_sJ, gR_sIA, Nat.reduceLeDiff, Nat.reduceEqDiff, Nat.reduceLT, Int.reduceLE, Int.reduceLT, Int.reduceEq, zWt_i, zWt_l, zWt_r, zWt_n, zH2_gK, zH2_mk, P, zMkk P, zMr0 P, zMk0 P, zMr6 P, zMk6 P, zMr7 P, zMk7 P, c1.1, c1.2, c2.1, c2.2] <;> omega) | omega | fail)) only [if_pos, if_neg, wI_id, zLc_lt, zLc_gt, zLc_eq, zLc_le, zLc_ge, Int.reduceEq, Int.reduceLE, Int.reduceLT, Int.reduceNeg, Int.reduceAdd, Int.reduceMul, Int.reduceSub, not_true_eq_false, not_false_eq_true, reduceIte, zPo_v, zPo_n, zPo_t, zKl_i, zKl_r, zKl_n, zKl_l, gK_sI, gK_sJ, gK_sR, gK_sIA, gK_sJA, gR_sI, gR_sJ, gJ_sI, gI_sJ, gI_sR, gJ_sR, gR_sIA, gJ_sIA, Nat.reduceLeDiff, Nat.reduceEqDiff, and_self, and_true, true_and, and_false, false_and, eX6_wrongLog_0, eX6_wrongLog_1, eX6_wrongLog_4, eX6_wrongLog_7, eX6_wrongLog_8, eX6_wrongLog_9, eX6_wrongLog_10, eX6_wrongLog_13, eX6_wrongLog_16, eX6_wrongLog_19, eX6_wrongLog_20, eX6_wrongLog_21, eX6_wrongLog_24, eX6_wrongLog_27, eX6_wrongLog_30, eX6_wrongLog_33, eX6_wrongLog_34, eX6_wrongLog_35, eX6_wrongLog_36, eX6_wrongLog_39, eX6_wrongLog_40, eX6_wrongLog_41, eX6_wrongLog_42, eX6_wrongLog_45, eX6_wrongLog_46, eX6_wrongLog_47, eX6_wrongLog_48, eX6_wrongLog_51, eX6_wrongLog_52, eX6_wrongLog_53, eX6_wrongLog_54, eX6_wrongLog_57, eX6_wrongLog_58, eX6_wrongLog_59, eX6_wrongLog_60, eX6_wrongLog_64, eX6_wrongLog_65, eX6_wrongLog_68, eX6_wrongLog_69, eX6_wrongLog_72, eX6_wrongLog_74, eX6_wrongLog_75, eX6_wrongLog_76, eX6_wrongLog_78, eX6_wrongLog_79, eX6_wrongLog_80, eX6_wrongLog_83, eX6_wrongLog_84, eX6_wrongLog_87, eX6_wrongLog_88, eX6_wrongLog_89, eX6_wrongLog_90, eX6_wrongLog_91, eX6_wrongLog_92, eX6_wrongLog_95, eX6_wrongLog_98, eX6_wrongLog_99, eX6_wrongLog_100, eX6_wrongLog_103, eX6_wrongLog_106, eX6_wrongLog_107, eX6_wrongLog_in, zH2_gK, zH2_gR, zH2_at, zH2_sI, zU_ne, P, zMkk P, zMr0 P, zMk0 P, zMr6 P, zMk6 P, zMr7 P, zMk7 P, cM_isFrom, zH2_gJ, wL_id, c]
                refine k _ _ ⟨rfl, by omega, fun j j0 j1 => ?_, rfl⟩
                by_cases ej : j = i
                · rw [ej]; exact c
                · exact hj j j0 (by omega)
              · have e5 : zFst (fun j => decide (¬ (-1 ≤ gJ h 118 (60 * t + j) ∧ gJ h 118 (60 * t + j) ≤ a 0 - 1))) n.toNat 0 = i := zFst_at n.toNat 0 i i0 (by omega) (fun j j0 j1 => decide_eq_false (fun q => q (hj j j0 j1))) (decide_eq_true c)
                rw [e5, if_neg (by omega)] at hQ
                simp (disch := (first | (simp only [gK_sI, gK_sJ, gK_sR, gK_sIA, gK_sJA, gR_sI, gR_sJ, gR_sIA, Nat.reduceLeDiff, Nat.reduceEqDiff, Nat.reduceLT, Int.reduceLE, Int.reduceLT, Int.reduceEq, zWt_i, zWt_l, zWt_r, zWt_n, zH2_gK, zH2_mk, P, zMkk P, zMr0 P, zMk0 P, zMr6 P, zMk6 P, zMr7 P, zMk7 P, c1.1, c1.2, c2.1, c2.2] <;> omega) | omega | fail)) only [if_pos, if_neg, wI_id, zLc_lt, zLc_gt, zLc_eq, zLc_le, zLc_ge, Int.reduceEq, Int.reduceLE, Int.reduceLT, Int.reduceNeg, Int.reduceAdd, Int.reduceMul, Int.reduceSub, not_true_eq_false, not_false_eq_true, reduceIte, zPo_v, zPo_n, zPo_t, zKl_i, zKl_r, zKl_n, zKl_l, gK_sI, gK_sJ, gK_sR, gK_sIA, gK_sJA, gR_sI, gR_sJ, gJ_sI, gI_sJ, gI_sR, gJ_sR, gR_sIA, gJ_sIA, Nat.reduceLeDiff, Nat.reduceEqDiff, and_self, and_true, true_and, and_false, false_and, eX6_wrongLog_0, eX6_wrongLog_1, eX6_wrongLog_4, eX6_wrongLog_7, eX6_wrongLog_8, eX6_wrongLog_9, eX6_wrongLog_10, eX6_wrongLog_13, eX6_wrongLog_16, eX6_wrongLog_19, eX6_wrongLog_20, eX6_wrongLog_21, eX6_wrongLog_24, eX6_wrongLog_27, eX6_wrongLog_30, eX6_wrongLog_33, eX6_wrongLog_34, eX6_wrongLog_35, eX6_wrongLog_36, eX6_wrongLog_39, eX6_wrongLog_40, eX6_wrongLog_41, eX6_wrongLog_42, eX6_wrongLog_45, eX6_wrongLog_46, eX6_wrongLog_47, eX6_wrongLog_48, eX6_wrongLog_51, eX6_wrongLog_52, eX6_wrongLog_53, eX6_wrongLog_54, eX6_wrongLog_57, eX6_wrongLog_58, eX6_wrongLog_59, eX6_wrongLog_60, eX6_wrongLog_64, eX6_wrongLog_65, eX6_wrongLog_68, eX6_wrongLog_69, eX6_wrongLog_72, eX6_wrongLog_74, eX6_wrongLog_75, eX6_wrongLog_76, eX6_wrongLog_78, eX6_wrongLog_79, eX6_wrongLog_80, eX6_wrongLog_83, eX6_wrongLog_84, eX6_wrongLog_87, eX6_wrongLog_88, eX6_wrongLog_89, eX6_wrongLog_90, eX6_wrongLog_91, eX6_wrongLog_92, eX6_wrongLog_95, eX6_wrongLog_98, eX6_wrongLog_99, eX6_wrongLog_100, eX6_wrongLog_103, eX6_wrongLog_106, eX6_wrongLog_107, eX6_wrongLog_in, zH2_gK, zH2_gR, zH2_at, zH2_sI, zU_ne, P, zMkk P, zMr0 P, zMk0 P, zMr6 P, zMk6 P, zMr7 P, zMk7 P, cM_isFrom, zH2_gJ, wL_id, c]
                exact hQ
            · rintro _ _ ⟨rfl, -, hj, rfl⟩
              have e5 : zFst (fun j => decide (¬ (-1 ≤ gJ h 118 (60 * t + j) ∧ gJ h 118 (60 * t + j) ≤ a 0 - 1))) n.toNat 0 = -1 := zFst_no n.toNat 0 (fun j j0 j1 => decide_eq_false (fun q => q (hj j j0 (by omega))))
              rw [e5, if_pos rfl] at hQ
              rw [eX6_wrongLog_62]
              simp (disch := (first | (simp only [gK_sI, gK_sJ, gK_sR, gK_sIA, gK_sJA, gR_sI, gR_sJ, gR_sIA, Nat.reduceLeDiff, Nat.reduceEqDiff, Nat.reduceLT, Int.reduceLE, Int.reduceLT, Int.reduceEq, zWt_i, zWt_l, zWt_r, zWt_n, zH2_gK, zH2_mk, P, zMkk P, zMr0 P, zMk0 P, zMr6 P, zMk6 P, zMr7 P, zMk7 P] <;> omega) | omega | fail)) only [if_pos, if_neg, wI_id, zLc_lt, zLc_gt, zLc_eq, zLc_le, zLc_ge, Int.reduceEq, Int.reduceLE, Int.reduceLT, Int.reduceNeg, Int.reduceAdd, Int.reduceMul, Int.reduceSub, not_true_eq_false, not_false_eq_true, reduceIte, zPo_v, zPo_n, zPo_t, zKl_i, zKl_r, zKl_n, zKl_l, gK_sI, gK_sJ, gK_sR, gK_sIA, gK_sJA, gR_sI, gR_sJ, gJ_sI, gI_sJ, gI_sR, gJ_sR, gR_sIA, gJ_sIA, Nat.reduceLeDiff, Nat.reduceEqDiff, and_self, and_true, true_and, and_false, false_and, eX6_wrongLog_0, eX6_wrongLog_1, eX6_wrongLog_4, eX6_wrongLog_7, eX6_wrongLog_8, eX6_wrongLog_9, eX6_wrongLog_10, eX6_wrongLog_13, eX6_wrongLog_16, eX6_wrongLog_19, eX6_wrongLog_20, eX6_wrongLog_21, eX6_wrongLog_24, eX6_wrongLog_27, eX6_wrongLog_30, eX6_wrongLog_33, eX6_wrongLog_34, eX6_wrongLog_35, eX6_wrongLog_36, eX6_wrongLog_39, eX6_wrongLog_40, eX6_wrongLog_41, eX6_wrongLog_42, eX6_wrongLog_45, eX6_wrongLog_46, eX6_wrongLog_47, eX6_wrongLog_48, eX6_wrongLog_51, eX6_wrongLog_52, eX6_wrongLog_53, eX6_wrongLog_54, eX6_wrongLog_57, eX6_wrongLog_58, eX6_wrongLog_59, eX6_wrongLog_60, eX6_wrongLog_64, eX6_wrongLog_65, eX6_wrongLog_68, eX6_wrongLog_69, eX6_wrongLog_72, eX6_wrongLog_74, eX6_wrongLog_75, eX6_wrongLog_76, eX6_wrongLog_78, eX6_wrongLog_79, eX6_wrongLog_80, eX6_wrongLog_83, eX6_wrongLog_84, eX6_wrongLog_87, eX6_wrongLog_88, eX6_wrongLog_89, eX6_wrongLog_90, eX6_wrongLog_91, eX6_wrongLog_92, eX6_wrongLog_95, eX6_wrongLog_98, eX6_wrongLog_99, eX6_wrongLog_100, eX6_wrongLog_103, eX6_wrongLog_106, eX6_wrongLog_107, eX6_wrongLog_in, zH2_gK, zH2_gR, zH2_at, zH2_sI, zU_ne, P, zMkk P, zMr0 P, zMk0 P, zMr6 P, zMk6 P, zMr7 P, zMk7 P]
              exact hQ
      · rw [if_neg (fun q => c3 q.2.2)] at hQ
        simp (disch := (first | (simp only [gK_sI, gK_sJ, gK_sR, gK_sIA, gK_sJA, gR_sI, gR_sJ, gR_sIA, Nat.reduceLeDiff, Nat.reduceEqDiff, Nat.reduceLT, Int.reduceLE, Int.reduceLT, Int.reduceEq, zWt_i, zWt_l, zWt_r, zWt_n, zH2_gK, zH2_mk, P, zMkk P, zMr0 P, zMk0 P, zMr6 P, zMk6 P, zMr7 P, zMk7 P, c1.1, c1.2, c2.1, c2.2] <;> omega) | omega | fail)) only [if_pos, if_neg, wI_id, zLc_lt, zLc_gt, zLc_eq, zLc_le, zLc_ge, Int.reduceEq, Int.reduceLE, Int.reduceLT, Int.reduceNeg, Int.reduceAdd, Int.reduceMul, Int.reduceSub, not_true_eq_false, not_false_eq_true, reduceIte, zPo_v, zPo_n, zPo_t, zKl_i, zKl_r, zKl_n, zKl_l, gK_sI, gK_sJ, gK_sR, gK_sIA, gK_sJA, gR_sI, gR_sJ, gJ_sI, gI_sJ, gI_sR, gJ_sR, gR_sIA, gJ_sIA, Nat.reduceLeDiff, Nat.reduceEqDiff, and_self, and_true, true_and, and_false, false_and, eX6_wrongLog_0, eX6_wrongLog_1, eX6_wrongLog_4, eX6_wrongLog_7, eX6_wrongLog_8, eX6_wrongLog_9, eX6_wrongLog_10, eX6_wrongLog_13, eX6_wrongLog_16, eX6_wrongLog_19, eX6_wrongLog_20, eX6_wrongLog_21, eX6_wrongLog_24, eX6_wrongLog_27, eX6_wrongLog_30, eX6_wrongLog_33, eX6_wrongLog_34, eX6_wrongLog_35, eX6_wrongLog_36, eX6_wrongLog_39, eX6_wrongLog_40, eX6_wrongLog_41, eX6_wrongLog_42, eX6_wrongLog_45, eX6_wrongLog_46, eX6_wrongLog_47, eX6_wrongLog_48, eX6_wrongLog_51, eX6_wrongLog_52, eX6_wrongLog_53, eX6_wrongLog_54, eX6_wrongLog_57, eX6_wrongLog_58, eX6_wrongLog_59, eX6_wrongLog_60, eX6_wrongLog_64, eX6_wrongLog_65, eX6_wrongLog_68, eX6_wrongLog_69, eX6_wrongLog_72, eX6_wrongLog_74, eX6_wrongLog_75, eX6_wrongLog_76, eX6_wrongLog_78, eX6_wrongLog_79, eX6_wrongLog_80, eX6_wrongLog_83, eX6_wrongLog_84, eX6_wrongLog_87, eX6_wrongLog_88, eX6_wrongLog_89, eX6_wrongLog_90, eX6_wrongLog_91, eX6_wrongLog_92, eX6_wrongLog_95, eX6_wrongLog_98, eX6_wrongLog_99, eX6_wrongLog_100, eX6_wrongLog_103, eX6_wrongLog_106, eX6_wrongLog_107, eX6_wrongLog_in, zH2_gK, zH2_gR, zH2_at, zH2_sI, zU_ne, P, zMkk P, zMr0 P, zMk0 P, zMr6 P, zMk6 P, zMr7 P, zMk7 P, cM_isTray, cM_isFrom, c3]
        exact hQ
    · rw [if_neg (fun q => c2 q.2.1)] at hQ
      simp (disch := (first | (simp only [gK_sI, gK_sJ, gK_sR, gK_sIA, gK_sJA, gR_sI, gR_sJ, gR_sIA, Nat.reduceLeDiff, Nat.reduceEqDiff, Nat.reduceLT, Int.reduceLE, Int.reduceLT, Int.reduceEq, zWt_i, zWt_l, zWt_r, zWt_n, zH2_gK, zH2_mk, P, zMkk P, zMr0 P, zMk0 P, zMr6 P, zMk6 P, zMr7 P, zMk7 P, c1.1, c1.2] <;> omega) | omega | fail)) only [if_pos, if_neg, wI_id, zLc_lt, zLc_gt, zLc_eq, zLc_le, zLc_ge, Int.reduceEq, Int.reduceLE, Int.reduceLT, Int.reduceNeg, Int.reduceAdd, Int.reduceMul, Int.reduceSub, not_true_eq_false, not_false_eq_true, reduceIte, zPo_v, zPo_n, zPo_t, zKl_i, zKl_r, zKl_n, zKl_l, gK_sI, gK_sJ, gK_sR, gK_sIA, gK_sJA, gR_sI, gR_sJ, gJ_sI, gI_sJ, gI_sR, gJ_sR, gR_sIA, gJ_sIA, Nat.reduceLeDiff, Nat.reduceEqDiff, and_self, and_true, true_and, and_false, false_and, eX6_wrongLog_0, eX6_wrongLog_1, eX6_wrongLog_4, eX6_wrongLog_7, eX6_wrongLog_8, eX6_wrongLog_9, eX6_wrongLog_10, eX6_wrongLog_13, eX6_wrongLog_16, eX6_wrongLog_19, eX6_wrongLog_20, eX6_wrongLog_21, eX6_wrongLog_24, eX6_wrongLog_27, eX6_wrongLog_30, eX6_wrongLog_33, eX6_wrongLog_34, eX6_wrongLog_35, eX6_wrongLog_36, eX6_wrongLog_39, eX6_wrongLog_40, eX6_wrongLog_41, eX6_wrongLog_42, eX6_wrongLog_45, eX6_wrongLog_46, eX6_wrongLog_47, eX6_wrongLog_48, eX6_wrongLog_51, eX6_wrongLog_52, eX6_wrongLog_53, eX6_wrongLog_54, eX6_wrongLog_57, eX6_wrongLog_58, eX6_wrongLog_59, eX6_wrongLog_60, eX6_wrongLog_64, eX6_wrongLog_65, eX6_wrongLog_68, eX6_wrongLog_69, eX6_wrongLog_72, eX6_wrongLog_74, eX6_wrongLog_75, eX6_wrongLog_76, eX6_wrongLog_78, eX6_wrongLog_79, eX6_wrongLog_80, eX6_wrongLog_83, eX6_wrongLog_84, eX6_wrongLog_87, eX6_wrongLog_88, eX6_wrongLog_89, eX6_wrongLog_90, eX6_wrongLog_91, eX6_wrongLog_92, eX6_wrongLog_95, eX6_wrongLog_98, eX6_wrongLog_99, eX6_wrongLog_100, eX6_wrongLog_103, eX6_wrongLog_106, eX6_wrongLog_107, eX6_wrongLog_in, zH2_gK, zH2_gR, zH2_at, zH2_sI, zU_ne, P, zMkk P, zMr0 P, zMk0 P, zMr6 P, zMk6 P, zMr7 P, zMk7 P, cM_isTray, cM_isFrom, c2]
      exact hQ
  · rw [if_neg (fun q => c1 q.1)] at hQ
    simp (disch := (first | (simp only [gK_sI, gK_sJ, gK_sR, gK_sIA, gK_sJA, gR_sI, gR_sJ, gR_sIA, Nat.reduceLeDiff, Nat.reduceEqDiff, Nat.reduceLT, Int.reduceLE, Int.reduceLT, Int.reduceEq, zWt_i, zWt_l, zWt_r, zWt_n, zH2_gK, zH2_mk, P, zMkk P, zMr0 P, zMk0 P, zMr6 P, zMk6 P, zMr7 P, zMk7 P] <;> omega) | omega | fail)) only [if_pos, if_neg, wI_id, zLc_lt, zLc_gt, zLc_eq, zLc_le, zLc_ge, Int.reduceEq, Int.reduceLE, Int.reduceLT, Int.reduceNeg, Int.reduceAdd, Int.reduceMul, Int.reduceSub, not_true_eq_false, not_false_eq_true, reduceIte, zPo_v, zPo_n, zPo_t, zKl_i, zKl_r, zKl_n, zKl_l, gK_sI, gK_sJ, gK_sR, gK_sIA, gK_sJA, gR_sI, gR_sJ, gJ_sI, gI_sJ, gI_sR, gJ_sR, gR_sIA, gJ_sIA, Nat.reduceLeDiff, Nat.reduceEqDiff, and_self, and_true, true_and, and_false, false_and, eX6_wrongLog_0, eX6_wrongLog_1, eX6_wrongLog_4, eX6_wrongLog_7, eX6_wrongLog_8, eX6_wrongLog_9, eX6_wrongLog_10, eX6_wrongLog_13, eX6_wrongLog_16, eX6_wrongLog_19, eX6_wrongLog_20, eX6_wrongLog_21, eX6_wrongLog_24, eX6_wrongLog_27, eX6_wrongLog_30, eX6_wrongLog_33, eX6_wrongLog_34, eX6_wrongLog_35, eX6_wrongLog_36, eX6_wrongLog_39, eX6_wrongLog_40, eX6_wrongLog_41, eX6_wrongLog_42, eX6_wrongLog_45, eX6_wrongLog_46, eX6_wrongLog_47, eX6_wrongLog_48, eX6_wrongLog_51, eX6_wrongLog_52, eX6_wrongLog_53, eX6_wrongLog_54, eX6_wrongLog_57, eX6_wrongLog_58, eX6_wrongLog_59, eX6_wrongLog_60, eX6_wrongLog_64, eX6_wrongLog_65, eX6_wrongLog_68, eX6_wrongLog_69, eX6_wrongLog_72, eX6_wrongLog_74, eX6_wrongLog_75, eX6_wrongLog_76, eX6_wrongLog_78, eX6_wrongLog_79, eX6_wrongLog_80, eX6_wrongLog_83, eX6_wrongLog_84, eX6_wrongLog_87, eX6_wrongLog_88, eX6_wrongLog_89, eX6_wrongLog_90, eX6_wrongLog_91, eX6_wrongLog_92, eX6_wrongLog_95, eX6_wrongLog_98, eX6_wrongLog_99, eX6_wrongLog_100, eX6_wrongLog_103, eX6_wrongLog_106, eX6_wrongLog_107, eX6_wrongLog_in, zH2_gK, zH2_gR, zH2_at, zH2_sI, zU_ne, P, zMkk P, zMr0 P, zMk0 P, zMr6 P, zMk6 P, zMr7 P, zMk7 P, cM_isTray, c1]
    exact hQ
end O34
