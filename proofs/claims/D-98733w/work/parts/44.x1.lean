/-! ===== A WORLD OF THE COMPONENT: its picture; what is read of it ===== -/
set_option maxRecDepth 100000
def zIv (a : Int → Int) : Prop := zGd a ∧ (0 ≤ a 2 ∧ a 2 ≤ 6) ∧ (0 ≤ a 3 ∧ a 3 ≤ 4) ∧ (0 ≤ a 4 ∧ a 4 ≤ 2) ∧ (0 ≤ a 5 ∧ a 5 ≤ 9999) ∧ ((∀ n, 0 ≤ n → n < a 0 → (0 ≤ a (8 + 4 * n) ∧ a (8 + 4 * n) ≤ 20) ∧ (0 ≤ a (9 + 4 * n) ∧ a (9 + 4 * n) ≤ 9) ∧ (0 ≤ a (10 + 4 * n) ∧ a (10 + 4 * n) ≤ 255))) ∧ ((∀ n, 0 ≤ n → n < 6 → 0 ≤ a (11 + 4 * n) ∧ a (11 + 4 * n) < 64)) ∧ ((∀ g, 0 ≤ g → g < a 1 → 0 ≤ a (32 + 3 * g) ∧ a (32 + 3 * g) < a 0)) ∧ ((∀ p, 0 ≤ p → p < a 2 → -1 ≤ a (56 + 15 * p) ∧ a (56 + 15 * p) < a 0)) ∧ ((∀ p g, 0 ≤ p → p < 6 → 0 ≤ g → g < 8 → 0 ≤ a (57 + 15 * p + g) ∧ a (57 + 15 * p + g) ≤ 99)) ∧ ((∀ p q, 0 ≤ p → p < 6 → 0 ≤ q → q < 6 → 0 ≤ a (65 + 15 * p + q) ∧ a (65 + 15 * p + q) ≤ 20 ∧ a (65 + 15 * p + q) = a (65 + 15 * q + p) ∧ (p = q → a (65 + 15 * p + q) = 0))) ∧ ((∀ s, 0 ≤ s → s < a 3 → (0 ≤ a (148 + 15 * s) ∧ a (148 + 15 * s) ≤ 20) ∧ (0 < a (148 + 15 * s) → a (146 + 15 * s) = -1 ∧ 0 ≤ a (147 + 15 * s) ∧ a (147 + 15 * s) < a 2) ∧ (a (148 + 15 * s) ≤ 0 → a (147 + 15 * s) = -1 ∧ 0 ≤ a (146 + 15 * s) ∧ a (146 + 15 * s) < a 2))) ∧ ((∀ s, 0 ≤ s → s < a 3 → 1 ≤ a (149 + 15 * s) ∧ a (149 + 15 * s) ≤ 60)) ∧ ((∀ s, 0 ≤ s → s < a 3 → 0 ≤ a (150 + 15 * s) ∧ a (150 + 15 * s) ≤ 9999)) ∧ ((∀ s g, 0 ≤ s → s < 4 → 0 ≤ g → g < 8 → 0 ≤ a (153 + 15 * s + g) ∧ a (153 + 15 * s + g) ≤ 60 ∧ (a 1 ≤ g → a (153 + 15 * s + g) = 0))) ∧ ((∀ s, 0 ≤ s → s < a 3 → fTons (fLd a s) ≤ a (149 + 15 * s)))
theorem zIgd {a : Int → Int} (P : zIv a) : zGd a := P.1
theorem zIports {a : Int → Int} (P : zIv a) : 0 ≤ a 2 ∧ a 2 ≤ 6 := P.2.1
theorem zIships {a : Int → Int} (P : zIv a) : 0 ≤ a 3 ∧ a 3 ≤ 4 := P.2.2.1
theorem zIrule {a : Int → Int} (P : zIv a) : 0 ≤ a 4 ∧ a 4 ≤ 2 := P.2.2.2.1
theorem zIday {a : Int → Int} (P : zIv a) : 0 ≤ a 5 ∧ a 5 ≤ 9999 := P.2.2.2.2.1
theorem zInat {a : Int → Int} (P : zIv a) : (∀ n, 0 ≤ n → n < a 0 → (0 ≤ a (8 + 4 * n) ∧ a (8 + 4 * n) ≤ 20) ∧ (0 ≤ a (9 + 4 * n) ∧ a (9 + 4 * n) ≤ 9) ∧ (0 ≤ a (10 + 4 * n) ∧ a (10 + 4 * n) ≤ 255)) := P.2.2.2.2.2.1
theorem zIwar {a : Int → Int} (P : zIv a) : (∀ n, 0 ≤ n → n < 6 → 0 ≤ a (11 + 4 * n) ∧ a (11 + 4 * n) < 64) := P.2.2.2.2.2.2.1
theorem zIgn {a : Int → Int} (P : zIv a) : (∀ g, 0 ≤ g → g < a 1 → 0 ≤ a (32 + 3 * g) ∧ a (32 + 3 * g) < a 0) := P.2.2.2.2.2.2.2.1
theorem zIpn {a : Int → Int} (P : zIv a) : (∀ p, 0 ≤ p → p < a 2 → -1 ≤ a (56 + 15 * p) ∧ a (56 + 15 * p) < a 0) := P.2.2.2.2.2.2.2.2.1
theorem zIpr {a : Int → Int} (P : zIv a) : (∀ p g, 0 ≤ p → p < 6 → 0 ≤ g → g < 8 → 0 ≤ a (57 + 15 * p + g) ∧ a (57 + 15 * p + g) ≤ 99) := P.2.2.2.2.2.2.2.2.2.1
theorem zIway {a : Int → Int} (P : zIv a) : (∀ p q, 0 ≤ p → p < 6 → 0 ≤ q → q < 6 → 0 ≤ a (65 + 15 * p + q) ∧ a (65 + 15 * p + q) ≤ 20 ∧ a (65 + 15 * p + q) = a (65 + 15 * q + p) ∧ (p = q → a (65 + 15 * p + q) = 0)) := P.2.2.2.2.2.2.2.2.2.2.1
theorem zIsea {a : Int → Int} (P : zIv a) : (∀ s, 0 ≤ s → s < a 3 → (0 ≤ a (148 + 15 * s) ∧ a (148 + 15 * s) ≤ 20) ∧ (0 < a (148 + 15 * s) → a (146 + 15 * s) = -1 ∧ 0 ≤ a (147 + 15 * s) ∧ a (147 + 15 * s) < a 2) ∧ (a (148 + 15 * s) ≤ 0 → a (147 + 15 * s) = -1 ∧ 0 ≤ a (146 + 15 * s) ∧ a (146 + 15 * s) < a 2)) := P.2.2.2.2.2.2.2.2.2.2.2.1
theorem zIhold {a : Int → Int} (P : zIv a) : (∀ s, 0 ≤ s → s < a 3 → 1 ≤ a (149 + 15 * s) ∧ a (149 + 15 * s) ≤ 60) := P.2.2.2.2.2.2.2.2.2.2.2.2.1
theorem zIcoin {a : Int → Int} (P : zIv a) : (∀ s, 0 ≤ s → s < a 3 → 0 ≤ a (150 + 15 * s) ∧ a (150 + 15 * s) ≤ 9999) := P.2.2.2.2.2.2.2.2.2.2.2.2.2.1
theorem zIton {a : Int → Int} (P : zIv a) : (∀ s g, 0 ≤ s → s < 4 → 0 ≤ g → g < 8 → 0 ≤ a (153 + 15 * s + g) ∧ a (153 + 15 * s + g) ≤ 60 ∧ (a 1 ≤ g → a (153 + 15 * s + g) = 0)) := P.2.2.2.2.2.2.2.2.2.2.2.2.2.2.1
theorem zIfull {a : Int → Int} (P : zIv a) : (∀ s, 0 ≤ s → s < a 3 → fTons (fLd a s) ≤ a (149 + 15 * s)) := P.2.2.2.2.2.2.2.2.2.2.2.2.2.2.2

/-- a name, as the one and as the other has it -/
def zB32 : List Int → Int
  | [] => 0
  | x :: r => x + 32 * zB32 r
def zB256 : List Int → Int
  | [] => 0
  | x :: r => x + 96 + 256 * zB256 r
def zNm (x y : Int) : Prop := ∃ l : List Int, 1 ≤ l.length ∧ l.length ≤ 8 ∧ (∀ c ∈ l, 1 ≤ c ∧ c ≤ 26) ∧ x = zB32 l ∧ y = wL (zB256 l)
/-- nations, goods, ports, ships told: the objects in a row -/
def zOb1 (h : zHp) (w : Nat) (a nm : Int → Int) : Prop := ∃ N, gR h w 6 = some N ∧ gK h N = (6, 6) ∧ ∀ k, 0 ≤ k → k < a 0 → ∃ p, gR h N k = some p ∧ gK h p = (0, 8) ∧ gI h p 1 = a (8 + 4 * k) ∧ gI h p 2 = a (9 + 4 * k) ∧ gI h p 3 = a (10 + 4 * k) ∧ zNm (gJ h p 0) (nm k)
def zOb2 (h : zHp) (w : Nat) (a nm : Int → Int) : Prop := ∃ N, gR h w 7 = some N ∧ gK h N = (7, 8) ∧ ∀ k, 0 ≤ k → k < a 1 → ∃ p, gR h N k = some p ∧ gK h p = (0, 9) ∧ gI h p 1 = a (32 + 3 * k) ∧ gI h p 2 = a (33 + 3 * k) ∧ gI h p 3 = a (34 + 3 * k) ∧ zNm (gJ h p 0) (nm (6 + k))
def zOb3 (h : zHp) (w : Nat) (a nm : Int → Int) : Prop := ∃ N, gR h w 8 = some N ∧ gK h N = (8, 6) ∧ ∀ k, 0 ≤ k → k < a 2 → ∃ p, gR h N k = some p ∧ gK h p = (0, 10) ∧ gI h p 1 = a (56 + 15 * k) ∧ zNm (gJ h p 0) (nm (14 + k))
def zOb4 (h : zHp) (w : Nat) (a nm : Int → Int) : Prop := ∃ N, gR h w 9 = some N ∧ gK h N = (9, 4) ∧ ∀ k, 0 ≤ k → k < a 3 → ∃ p, gR h N k = some p ∧ gK h p = (0, 11) ∧ gI h p 1 = a (149 + 15 * k) ∧ zNm (gJ h p 0) (nm (20 + k))
/-- the numbers of a world -/
def zPn (h : zHp) (w : Nat) (a : Int → Int) : Prop := gI h w 0 = a 0 ∧ gI h w 1 = a 1 ∧ gI h w 2 = a 2 ∧ gI h w 3 = a 3 ∧ gI h w 4 = a 4 ∧ gI h w 5 = a 5 ∧
  (∀ n, 0 ≤ n → n < 6 → gI h (w + 5) n = a (11 + 4 * n)) ∧
  (∀ p g, 0 ≤ p → p < 6 → 0 ≤ g → g < 8 → gI h (w + 6) (8 * p + g) = a (57 + 15 * p + g)) ∧
  (∀ p q, 0 ≤ p → p < 6 → 0 ≤ q → q < 6 → gI h (w + 7) (6 * p + q) = a (65 + 15 * p + q)) ∧
  (∀ s, 0 ≤ s → s < 4 → gI h (w + 10) s = a (148 + 15 * s) ∧ gI h (w + 11) s = a (150 + 15 * s) ∧ gI h (w + 12) s = a (151 + 15 * s) ∧ gI h (w + 13) s = a (152 + 15 * s)) ∧
  (∀ s, 0 ≤ s → s < a 3 → (0 < a (148 + 15 * s) → gI h (w + 9) s = a (147 + 15 * s)) ∧ (a (148 + 15 * s) ≤ 0 → gI h (w + 8) s = a (146 + 15 * s))) ∧
  (∀ s g, 0 ≤ s → s < 4 → 0 ≤ g → g < 8 → gI h (w + 14) (8 * s + g) = a (153 + 15 * s + g))
def zPw (h : zHp) (w : Nat) (a nm : Int → Int) : Prop := 65 ≤ w ∧ zWk h w ∧ zPn h w a ∧ zOb1 h w a nm ∧ zOb2 h w a nm ∧ zOb3 h w a nm ∧ zOb4 h w a nm
theorem zLd_iv {a : Int → Int} (v : zIv a) {s : Int} (h0 : 0 ≤ s) (h1 : s < 4) : zLd (fLd a s) := fun g g0 g1 => by
  have h9 := zIton v s g h0 h1 g0 g1
  unfold fLd
  omega
theorem fTons_part {f : Int → Int} : ∀ (k n : Nat), n ≤ k → (∀ i : Int, (n : Int) ≤ i → i < k → f i = 0) → zSum n f = zSum k f
  | 0, n, h, _ => by
    have e : n = 0 := by omega
    rw [e]
  | k + 1, n, h, hz => by
    by_cases e : n = k + 1
    · rw [e]
    · rw [fTons_part k n (by omega) (fun i h0 h1 => hz i h0 (by omega))]
      show _ = zSum k f + f k
      rw [hz k (by omega) (by omega)]
      omega
theorem fSet_lt {a ld : Int → Int} {y w : Int} : ∀ n : Nat, fMost a ld y n < w → fSet a ld y w n = 0
  | 0, _ => rfl
  | n + 1, h9 => by
    have h9 : max (fMost a ld y n) (fW a ld n y) < w := h9
    show (if fW a ld n y = w then zOr (fSet a ld y w n) (zShl 1 n) else zOr (fSet a ld y w n) 0) = 0
    rw [if_neg (by omega), fSet_lt n (by omega)]
    rfl
theorem fOr0' : ∀ i : Nat, i < 6 → zOr 0 (zShl 1 i) = zShl 1 i := by decide +kernel
theorem fOr0 {i : Int} (h0 : 0 ≤ i) (h1 : i < 6) : zOr 0 (zShl 1 i) = zShl 1 i := by
  have h9 := fOr0' i.toNat (by omega)
  rw [Int.toNat_of_nonneg h0] at h9
  exact h9
section X1
variable {d w : Nat} {h : zHp} {Q : zRs → Prop} {a nm : Int → Int}
theorem cX_isAtSea {s : Int} (P : zPw h w a nm) (h0 : 0 ≤ s) (h1 : s < 4) : zCm mX5_isAtSea d [zr (some w), zi s] h Q ↔ if 0 < a (148 + 15 * s) then Q (zRv (zi 1) h) else Q (zRv (zi 0) h) := by
  obtain ⟨hw, W, P, -⟩ := P
  have e1 := (P.2.2.2.2.2.2.2.2.2.1 s h0 h1).1
  simp (disch := (first | (simp only [gK_sI, gK_sJ, gK_sR, gK_sIA, gK_sJA, gR_sI, gR_sJ, gR_sIA, Nat.reduceLeDiff, Nat.reduceEqDiff, Nat.reduceLT, Int.reduceLE, Int.reduceLT, Int.reduceEq, zWt_i, zWt_l, zWt_r, zWt_n, W, zWkk W, zWr15 W, zWk15 W] <;> omega) | omega | fail)) only [wI_id, zLc_lt, zLc_gt, zLc_eq, zLc_le, zLc_ge, Int.reduceEq, Int.reduceLE, Int.reduceLT, Int.reduceNeg, Int.reduceAdd, Int.reduceMul, Int.reduceSub, not_true_eq_false, not_false_eq_true, reduceIte, zPo_v, zPo_n, zPo_t, zKl_i, zKl_r, zKl_n, zKl_l, gK_sI, gK_sJ, gK_sR, gK_sIA, gK_sJA, gR_sI, gR_sJ, gJ_sI, gI_sJ, gI_sR, gJ_sR, gR_sIA, gJ_sIA, Nat.reduceLeDiff, Nat.reduceEqDiff, eX5_isAtSea_0, eX5_isAtSea_1, eX5_isAtSea_4, eX5_isAtSea_5, eX5_isAtSea_6, eX5_isAtSea_9, eX5_isAtSea_10, eX5_isAtSea_13, eX5_isAtSea_14, eX5_isAtSea_in, W, zWkk W, zWr15 W, zWk15 W, e1]
  all_goals ((repeat' split) <;> first | exact Iff.rfl | (exfalso; omega) | (rename_i w9; rw [w9] <;> exact Iff.rfl))
theorem cX_aboard {s : Int} (v : zIv a) (P : zPw h w a nm) (h0 : 0 ≤ s) (h1 : s < 4) : zCm mX5_aboard d [zr (some w), zi s] h Q ↔ Q (zRv (zi (fTons (fLd a s))) h) := by
  refine zCm_iff (fun Q hQ => ?_)
  obtain ⟨hw, W, P, -⟩ := P
  have hl := zLd_iv v h0 h1
  obtain ⟨a0, a1⟩ := (zIgd v).2.1
  have e1 := P.2.1
  have e2 : ∀ g, 0 ≤ g → g < 8 → gI h (w + 14) (8 * s + g) = fLd a s g := fun g g0 g1 => P.2.2.2.2.2.2.2.2.2.2.2 s g h0 h1 g0 g1
  simp (disch := (first | (simp only [gK_sI, gK_sJ, gK_sR, gK_sIA, gK_sJA, gR_sI, gR_sJ, gR_sIA, Nat.reduceLeDiff, Nat.reduceEqDiff, Nat.reduceLT, Int.reduceLE, Int.reduceLT, Int.reduceEq, zWt_i, zWt_l, zWt_r, zWt_n, W, zWkk W, zWr19 W, zWk19 W] <;> omega) | omega | fail)) only [if_pos, if_neg, wI_id, zLc_lt, zLc_gt, zLc_eq, zLc_le, zLc_ge, Int.reduceEq, Int.reduceLE, Int.reduceLT, Int.reduceNeg, Int.reduceAdd, Int.reduceMul, Int.reduceSub, not_true_eq_false, not_false_eq_true, reduceIte, zPo_v, zPo_n, zPo_t, zKl_i, zKl_r, zKl_n, zKl_l, gK_sI, gK_sJ, gK_sR, gK_sIA, gK_sJA, gR_sI, gR_sJ, gJ_sI, gI_sJ, gI_sR, gJ_sR, gR_sIA, gJ_sIA, Nat.reduceLeDiff, Nat.reduceEqDiff, eX5_aboard_0, eX5_aboard_1, eX5_aboard_2, eX5_aboard_3, eX5_aboard_5, eX5_aboard_6, eX5_aboard_9, eX5_aboard_12, eX5_aboard_13, eX5_aboard_14, eX5_aboard_17, eX5_aboard_19, eX5_aboard_20, eX5_aboard_21, eX5_aboard_22, eX5_aboard_23, eX5_aboard_24, eX5_aboard_25, eX5_aboard_26, eX5_aboard_29, eX5_aboard_32, eX5_aboard_33, eX5_aboard_in]
  refine zLoop (a 1) (fun i ls h' => h = h' ∧ 0 ≤ i ∧ ls = [some (zr (some w)), some (zi s), some (zi (zSum i.toNat (fLd a s))), some (zi i)]) ?_ ?_ 0 _ _ a0 ⟨rfl, by omega, rfl⟩
  · rintro i _ _ hi ⟨rfl, hi0, rfl⟩ k
    obtain ⟨l1, l2⟩ := hl i hi0 (by omega)
    have p9 := zSum_le (f := fLd a s) (lo := 0) (hi := 1000) i.toNat (fun j h0 h1 => hl j h0 (by omega))
    rw [eX5_aboard_4]
    simp (disch := (first | (simp only [gK_sI, gK_sJ, gK_sR, gK_sIA, gK_sJA, gR_sI, gR_sJ, gR_sIA, Nat.reduceLeDiff, Nat.reduceEqDiff, Nat.reduceLT, Int.reduceLE, Int.reduceLT, Int.reduceEq, zWt_i, zWt_l, zWt_r, zWt_n, W, zWkk W, zWr19 W, zWk19 W] <;> omega) | omega | fail)) only [if_pos, if_neg, wI_id, zLc_lt, zLc_gt, zLc_eq, zLc_le, zLc_ge, Int.reduceEq, Int.reduceLE, Int.reduceLT, Int.reduceNeg, Int.reduceAdd, Int.reduceMul, Int.reduceSub, not_true_eq_false, not_false_eq_true, reduceIte, zPo_v, zPo_n, zPo_t, zKl_i, zKl_r, zKl_n, zKl_l, gK_sI, gK_sJ, gK_sR, gK_sIA, gK_sJA, gR_sI, gR_sJ, gJ_sI, gI_sJ, gI_sR, gJ_sR, gR_sIA, gJ_sIA, Nat.reduceLeDiff, Nat.reduceEqDiff, eX5_aboard_0, eX5_aboard_1, eX5_aboard_2, eX5_aboard_3, eX5_aboard_5, eX5_aboard_6, eX5_aboard_9, eX5_aboard_12, eX5_aboard_13, eX5_aboard_14, eX5_aboard_17, eX5_aboard_19, eX5_aboard_20, eX5_aboard_21, eX5_aboard_22, eX5_aboard_23, eX5_aboard_24, eX5_aboard_25, eX5_aboard_26, eX5_aboard_29, eX5_aboard_32, eX5_aboard_33, eX5_aboard_in, W, zWkk W, zWr19 W, zWk19 W, e1, e2]
    exact k _ _ ⟨rfl, by omega, by rw [zSum_next hi0]⟩
  · rintro _ _ ⟨rfl, hi0, rfl⟩
    rw [eX5_aboard_4]
    simp (disch := (first | (simp only [gK_sI, gK_sJ, gK_sR, gK_sIA, gK_sJA, gR_sI, gR_sJ, gR_sIA, Nat.reduceLeDiff, Nat.reduceEqDiff, Nat.reduceLT, Int.reduceLE, Int.reduceLT, Int.reduceEq, zWt_i, zWt_l, zWt_r, zWt_n, W, zWkk W, zWr19 W, zWk19 W] <;> omega) | omega | fail)) only [if_pos, if_neg, wI_id, zLc_lt, zLc_gt, zLc_eq, zLc_le, zLc_ge, Int.reduceEq, Int.reduceLE, Int.reduceLT, Int.reduceNeg, Int.reduceAdd, Int.reduceMul, Int.reduceSub, not_true_eq_false, not_false_eq_true, reduceIte, zPo_v, zPo_n, zPo_t, zKl_i, zKl_r, zKl_n, zKl_l, gK_sI, gK_sJ, gK_sR, gK_sIA, gK_sJA, gR_sI, gR_sJ, gJ_sI, gI_sJ, gI_sR, gJ_sR, gR_sIA, gJ_sIA, Nat.reduceLeDiff, Nat.reduceEqDiff, eX5_aboard_0, eX5_aboard_1, eX5_aboard_2, eX5_aboard_3, eX5_aboard_5, eX5_aboard_6, eX5_aboard_9, eX5_aboard_12, eX5_aboard_13, eX5_aboard_14, eX5_aboard_17, eX5_aboard_19, eX5_aboard_20, eX5_aboard_21, eX5_aboard_22, eX5_aboard_23, eX5_aboard_24, eX5_aboard_25, eX5_aboard_26, eX5_aboard_29, eX5_aboard_32, eX5_aboard_33, eX5_aboard_in, W, zWkk W, zWr19 W, zWk19 W, e1]
    have e3 : zSum (a 1).toNat (fLd a s) = fTons (fLd a s) := fTons_part 8 _ (by omega) (fun i i0 i1 => (zIton v s i h0 h1 (by omega) (by omega)).2.2 (by omega))
    rw [e3]
    exact hQ
theorem cX_room {s : Int} (v : zIv a) (P : zPw h w a nm) (h0 : 0 ≤ s) (h1 : s < a 3) : zCm mX5_room d [zr (some w), zi s] h Q ↔ Q (zRv (zi (a (149 + 15 * s) - fTons (fLd a s))) h) := by
  have h4 := (zIships v).2
  obtain ⟨N, n1, n2, n3⟩ := P.2.2.2.2.2.2
  obtain ⟨p, p1, p2, p3, p4⟩ := n3 s h0 h1
  have hb := fTons_b (zLd_iv v h0 (by omega))
  have hh := zIhold v s h0 h1
  have W := P.2.1
  simp (disch := (first | (simp only [gK_sI, gK_sJ, gK_sR, gK_sIA, gK_sJA, gR_sI, gR_sJ, gR_sIA, Nat.reduceLeDiff, Nat.reduceEqDiff, Nat.reduceLT, Int.reduceLE, Int.reduceLT, Int.reduceEq, zWt_i, zWt_l, zWt_r, zWt_n, W, zWkk W, n2, p2] <;> omega) | omega | fail)) only [wI_id, zLc_lt, zLc_gt, zLc_eq, zLc_le, zLc_ge, Int.reduceEq, Int.reduceLE, Int.reduceLT, Int.reduceNeg, Int.reduceAdd, Int.reduceMul, Int.reduceSub, not_true_eq_false, not_false_eq_true, reduceIte, zPo_v, zPo_n, zPo_t, zKl_i, zKl_r, zKl_n, zKl_l, gK_sI, gK_sJ, gK_sR, gK_sIA, gK_sJA, gR_sI, gR_sJ, gJ_sI, gI_sJ, gI_sR, gJ_sR, gR_sIA, gJ_sIA, Nat.reduceLeDiff, Nat.reduceEqDiff, eX5_room_0, eX5_room_1, eX5_room_4, eX5_room_5, eX5_room_6, eX5_room_9, eX5_room_10, eX5_room_11, eX5_room_14, eX5_room_15, eX5_room_in, W, zWkk W, n1, n2, p1, p2, p3, cX_aboard v P]
theorem cX_weight {s n y : Int} (v : zIv a) (P : zPw h w a nm) (h0 : 0 ≤ s) (h1 : s < 4) : zCm mX5_weight d [zr (some w), zi s, zi n, zi y] h Q ↔ Q (zRv (zi (fW a (fLd a s) n y)) h) := by
  refine zCm_iff (fun Q hQ => ?_)
  obtain ⟨hw, W, P, -, P2, -, -⟩ := P
  have hl := zLd_iv v h0 h1
  have ha := zIgd v
  obtain ⟨a0, a1⟩ := (zIgd v).2.1
  have e1 := P.2.1
  have e2 : ∀ g, 0 ≤ g → g < 8 → gI h (w + 14) (8 * s + g) = fLd a s g := fun g g0 g1 => P.2.2.2.2.2.2.2.2.2.2.2 s g h0 h1 g0 g1
  obtain ⟨N, n1, n2, n3⟩ := P2
  simp (disch := (first | (simp only [gK_sI, gK_sJ, gK_sR, gK_sIA, gK_sJA, gR_sI, gR_sJ, gR_sIA, Nat.reduceLeDiff, Nat.reduceEqDiff, Nat.reduceLT, Int.reduceLE, Int.reduceLT, Int.reduceEq, zWt_i, zWt_l, zWt_r, zWt_n, W, zWkk W, zWr19 W, zWk19 W] <;> omega) | omega | fail)) only [if_pos, if_neg, wI_id, zLc_lt, zLc_gt, zLc_eq, zLc_le, zLc_ge, Int.reduceEq, Int.reduceLE, Int.reduceLT, Int.reduceNeg, Int.reduceAdd, Int.reduceMul, Int.reduceSub, not_true_eq_false, not_false_eq_true, reduceIte, zPo_v, zPo_n, zPo_t, zKl_i, zKl_r, zKl_n, zKl_l, gK_sI, gK_sJ, gK_sR, gK_sIA, gK_sJA, gR_sI, gR_sJ, gJ_sI, gI_sJ, gI_sR, gJ_sR, gR_sIA, gJ_sIA, Nat.reduceLeDiff, Nat.reduceEqDiff, eX5_weight_0, eX5_weight_1, eX5_weight_3, eX5_weight_4, eX5_weight_8, eX5_weight_9, eX5_weight_12, eX5_weight_15, eX5_weight_16, eX5_weight_19, eX5_weight_21, eX5_weight_22, eX5_weight_23, eX5_weight_25, eX5_weight_26, eX5_weight_27, eX5_weight_29, eX5_weight_30, eX5_weight_33, eX5_weight_35, eX5_weight_36, eX5_weight_39, eX5_weight_40, eX5_weight_43, eX5_weight_45, eX5_weight_48, eX5_weight_50, eX5_weight_51, eX5_weight_54, eX5_weight_56, eX5_weight_59, eX5_weight_60, eX5_weight_61, eX5_weight_64, eX5_weight_65, eX5_weight_68, eX5_weight_70, eX5_weight_71, eX5_weight_74, eX5_weight_76, eX5_weight_77, eX5_weight_80, eX5_weight_81, eX5_weight_82, eX5_weight_84, eX5_weight_87, eX5_weight_90, eX5_weight_92, eX5_weight_in]
  refine zLoop (a 1) (fun i ls h' => h = h' ∧ 0 ≤ i ∧ ∃ o, ls = [some (zr (some w)), some (zi s), some (zi n), some (zi y), some (zi (zSum i.toNat (fWg a (fLd a s) n y))), some (zi i), o]) ?_ ?_ 0 _ _ a0 ⟨rfl, by omega, none, rfl⟩
  · rintro i _ _ hi ⟨rfl, hi0, o, rfl⟩ k
    obtain ⟨g1, g2⟩ := ha.2.2.1 i hi0 (by omega)
    obtain ⟨l1, l2⟩ := hl i hi0 (by omega)
    obtain ⟨p, p1, p2, p3, p4, p5, -⟩ := n3 i hi0 hi
    have m1 : 0 ≤ fLd a s i * a (33 + 3 * i) := Int.mul_nonneg l1 g1
    have m2 : fLd a s i * a (33 + 3 * i) ≤ 1000 * 99 := Int.mul_le_mul l2 g2 g1 (by omega)
    have p9 := fW_part (n := n) (by9 := y) ha hl (k := i.toNat) (by omega)
    have k2 : ∀ v o, v = zSum i.toNat (fWg a (fLd a s) n y) + fWg a (fLd a s) n y i → zEv mX5_weight d 6 [some (Sum.inr (Sum.inr (some w))), some (Sum.inl s), some (Sum.inl n), some (Sum.inl y), some (Sum.inl v), some (Sum.inl (i + 1)), o] [] h Q := fun v o e => k _ _ ⟨rfl, by omega, o, by rw [zSum_next hi0, e]⟩
    rw [eX5_weight_6]
    simp (disch := (first | (simp only [gK_sI, gK_sJ, gK_sR, gK_sIA, gK_sJA, gR_sI, gR_sJ, gR_sIA, Nat.reduceLeDiff, Nat.reduceEqDiff, Nat.reduceLT, Int.reduceLE, Int.reduceLT, Int.reduceEq, zWt_i, zWt_l, zWt_r, zWt_n, W, zWkk W, zWr19 W, zWk19 W, n2, p2] <;> omega) | omega | fail)) only [if_pos, if_neg, wI_id, zLc_lt, zLc_gt, zLc_eq, zLc_le, zLc_ge, Int.reduceEq, Int.reduceLE, Int.reduceLT, Int.reduceNeg, Int.reduceAdd, Int.reduceMul, Int.reduceSub, not_true_eq_false, not_false_eq_true, reduceIte, zPo_v, zPo_n, zPo_t, zKl_i, zKl_r, zKl_n, zKl_l, gK_sI, gK_sJ, gK_sR, gK_sIA, gK_sJA, gR_sI, gR_sJ, gJ_sI, gI_sJ, gI_sR, gJ_sR, gR_sIA, gJ_sIA, Nat.reduceLeDiff, Nat.reduceEqDiff, eX5_weight_0, eX5_weight_1, eX5_weight_3, eX5_weight_4, eX5_weight_8, eX5_weight_9, eX5_weight_12, eX5_weight_15, eX5_weight_16, eX5_weight_19, eX5_weight_21, eX5_weight_22, eX5_weight_23, eX5_weight_25, eX5_weight_26, eX5_weight_27, eX5_weight_29, eX5_weight_30, eX5_weight_33, eX5_weight_35, eX5_weight_36, eX5_weight_39, eX5_weight_40, eX5_weight_43, eX5_weight_45, eX5_weight_48, eX5_weight_50, eX5_weight_51, eX5_weight_54, eX5_weight_56, eX5_weight_59, eX5_weight_60, eX5_weight_61, eX5_weight_64, eX5_weight_65, eX5_weight_68, eX5_weight_70, eX5_weight_71, eX5_weight_74, eX5_weight_76, eX5_weight_77, eX5_weight_80, eX5_weight_81, eX5_weight_82, eX5_weight_84, eX5_weight_87, eX5_weight_90, eX5_weight_92, eX5_weight_in, W, zWkk W, zWr19 W, zWk19 W, e1, e2, n1, n2, p1, p2, p3, p4]
    (repeat' split) <;> (apply k2; unfold fWg; (repeat' split) <;> omega)
  · rintro _ _ ⟨rfl, hi0, o, rfl⟩
    rw [eX5_weight_6]
    simp (disch := (first | (simp only [gK_sI, gK_sJ, gK_sR, gK_sIA, gK_sJA, gR_sI, gR_sJ, gR_sIA, Nat.reduceLeDiff, Nat.reduceEqDiff, Nat.reduceLT, Int.reduceLE, Int.reduceLT, Int.reduceEq, zWt_i, zWt_l, zWt_r, zWt_n, W, zWkk W, zWr19 W, zWk19 W] <;> omega) | omega | fail)) only [if_pos, if_neg, wI_id, zLc_lt, zLc_gt, zLc_eq, zLc_le, zLc_ge, Int.reduceEq, Int.reduceLE, Int.reduceLT, Int.reduceNeg, Int.reduceAdd, Int.reduceMul, Int.reduceSub, not_true_eq_false, not_false_eq_true, reduceIte, zPo_v, zPo_n, zPo_t, zKl_i, zKl_r, zKl_n, zKl_l, gK_sI, gK_sJ, gK_sR, gK_sIA, gK_sJA, gR_sI, gR_sJ, gJ_sI, gI_sJ, gI_sR, gJ_sR, gR_sIA, gJ_sIA, Nat.reduceLeDiff, Nat.reduceEqDiff, eX5_weight_0, eX5_weight_1, eX5_weight_3, eX5_weight_4, eX5_weight_8, eX5_weight_9, eX5_weight_12, eX5_weight_15, eX5_weight_16, eX5_weight_19, eX5_weight_21, eX5_weight_22, eX5_weight_23, eX5_weight_25, eX5_weight_26, eX5_weight_27, eX5_weight_29, eX5_weight_30, eX5_weight_33, eX5_weight_35, eX5_weight_36, eX5_weight_39, eX5_weight_40, eX5_weight_43, eX5_weight_45, eX5_weight_48, eX5_weight_50, eX5_weight_51, eX5_weight_54, eX5_weight_56, eX5_weight_59, eX5_weight_60, eX5_weight_61, eX5_weight_64, eX5_weight_65, eX5_weight_68, eX5_weight_70, eX5_weight_71, eX5_weight_74, eX5_weight_76, eX5_weight_77, eX5_weight_80, eX5_weight_81, eX5_weight_82, eX5_weight_84, eX5_weight_87, eX5_weight_90, eX5_weight_92, eX5_weight_in, W, zWkk W, zWr19 W, zWk19 W, e1]
    exact hQ
end X1
