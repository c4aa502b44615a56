/-! ===== VOYAGES OF A SHIP, 1: the laws, the reference ===== -/
set_option maxRecDepth 100000
theorem zDiv_id {x y : Int} (h0 : 0 ≤ x) (h1 : x ≤ 1000000000) (y0 : 0 < y) (y1 : y ≤ 1000000000) : zDiv x y = x / y := by
  unfold zDiv
  have ex : (Int32.ofInt x).toInt = x := ofI_to ⟨by omega, by omega⟩
  have ey : (Int32.ofInt y).toInt = y := ofI_to ⟨by omega, by omega⟩
  have hq := Int.ediv_nonneg h0 (by omega : 0 ≤ y)
  have hl : x / y ≤ x := Int.ediv_le_self _ h0
  rw [Int32.toInt_div, ex, ey, Int.tdiv_eq_ediv_of_nonneg h0]
  simp only [Int.bmod_def]
  omega
theorem zRem_id {x y : Int} (h0 : 0 ≤ x) (h1 : x ≤ 1000000000) (y0 : 0 < y) (y1 : y ≤ 1000000000) : zRem x y = x % y := by
  have hd := zDiv_id h0 h1 y0 y1
  unfold zDiv at hd
  unfold zRem
  have ex : (Int32.ofInt x).toInt = x := ofI_to ⟨by omega, by omega⟩
  have ey : (Int32.ofInt y).toInt = y := ofI_to ⟨by omega, by omega⟩
  have hq := Int.ediv_nonneg h0 (by omega : 0 ≤ y)
  have hl : x / y ≤ x := Int.ediv_le_self _ h0
  have hm : x / y * y ≤ x := Int.ediv_mul_le x (by omega)
  have hm0 : 0 ≤ x / y * y := Int.mul_nonneg hq (by omega)
  have hr := Int.emod_def x y
  have hc := Int.mul_comm y (x / y)
  rw [Int32.toInt_sub, Int32.toInt_mul, hd, ex, ey, hr, hc]
  simp only [Int.bmod_def]
  omega
theorem zFold_congr {σ : Type} {f g : Int → σ → σ} {lo : Int} : ∀ (n : Nat) (s : σ), (∀ c, lo ≤ c → c < lo + n → ∀ z, f c z = g c z) → zFold n lo f s = zFold n lo g s
  | 0, _, _ => rfl
  | n + 1, s, h => by
    show f (lo + n) (zFold n lo f s) = g (lo + n) (zFold n lo g s)
    rw [zFold_congr n s (fun c c0 c1 => h c c0 (by omega)), h _ (by omega) (by omega)]
theorem zFold_cons {σ : Type} {f : Int → σ → σ} : ∀ (n : Nat) (lo : Int) (s : σ), zFold (n + 1) lo f s = zFold n (lo + 1) f (f lo s)
  | 0, lo, s => by
    show f (lo + ((0 : Nat) : Int)) s = f lo s
    rw [show lo + ((0 : Nat) : Int) = lo by omega]
  | n + 1, lo, s => by
    show f (lo + ((n + 1 : Nat) : Int)) (zFold (n + 1) lo f s) = f (lo + 1 + (n : Int)) (zFold n (lo + 1) f (f lo s))
    rw [zFold_cons n lo s, show lo + ((n + 1 : Nat) : Int) = lo + 1 + (n : Int) by omega]
theorem zFold_id {σ : Type} {f : Int → σ → σ} {lo : Int} : ∀ (n : Nat) (s : σ), (∀ c, lo ≤ c → c < lo + n → ∀ z, f c z = z) → zFold n lo f s = s
  | 0, _, _ => rfl
  | n + 1, s, h => by
    show f (lo + n) (zFold n lo f s) = s
    rw [zFold_id n s (fun c c0 c1 => h c c0 (by omega)), h _ (by omega) (by omega)]
/-- alike but for what a voyage doesn't ask -/
def zQs (s : Int) (a b : Int → Int) : Prop := ∀ k, k ≠ 151 + 15 * s → k ≠ 152 + 15 * s → b k = a k
theorem zQs_rf {s : Int} {a : Int → Int} : zQs s a a := fun _ _ _ => rfl
theorem zQs_tr {s : Int} {a b c : Int → Int} (p : zQs s a b) (q : zQs s b c) : zQs s a c := fun k k1 k2 => (q k k1 k2).trans (p k k1 k2)
theorem zQs_u {s i x : Int} {a b : Int → Int} (q : zQs s a b) : zQs s (zU a i x) (zU b i x) := fun k k1 k2 => by
  by_cases e : k = i
  · rw [e, zU_eq, zU_eq]
  · rw [zU_ne e, zU_ne e]
    exact q k k1 k2
theorem zQs_x {s x y : Int} {a b : Int → Int} (q : zQs s a b) : zQs s (zU a (151 + 15 * s) x) (zU b (151 + 15 * s) y) := fun k k1 k2 => by
  rw [zU_ne k1, zU_ne k1]
  exact q k k1 k2
theorem zQs_y {s x y : Int} {a b : Int → Int} (q : zQs s a b) : zQs s (zU a (152 + 15 * s) x) (zU b (152 + 15 * s) y) := fun k k1 k2 => by
  rw [zU_ne k2, zU_ne k2]
  exact q k k1 k2
theorem zIv_q {s : Int} {a b : Int → Int} (v : zIv a) (q : zQs s a b) (s0 : 0 ≤ s) (s4 : s < 4) : zIv b :=
  zIv_money v (fun k hk => q k (by omega) (by omega)) (fun t i t0 t1 i0 i1 i2 i3 i4 => q _ (by omega) (by omega)) (fun t t0 t1 => by
    rw [q _ (by omega) (by omega)]
    exact zIcoin v t t0 t1)
theorem fTons_q {s : Int} {a b : Int → Int} (q : zQs s a b) : fTons (fLd b s) = fTons (fLd a s) := fTons_congr (fun g g0 g1 => q (153 + 15 * s + g) (by omega) (by omega))
theorem fFl_q {s : Int} {a b : Int → Int} (h8 : a 1 ≤ 8) (q : zQs s a b) (s0 : 0 ≤ s) : fFl b s = fFl a s := by
  unfold fFl
  rw [q 4 (by omega) (by omega), fCap_slot (a := a) (b := b) h8 (fun k k0 k1 => q k (by omega) (by omega)), fCap_congr (a := a) h8 (f := fLd b s) (g := fLd a s) (fun g g0 g1 => q (153 + 15 * s + g) (by omega) (by omega))]
/-- all that a ship's voyage leaves -/
def zOs (s : Int) (a b : Int → Int) : Prop := ∀ k, (k < 146 + 15 * s ∨ 161 + 15 * s ≤ k ∨ k = 149 + 15 * s) → b k = a k
theorem zOs_rf {s : Int} {a : Int → Int} : zOs s a a := fun _ _ => rfl
theorem zOs_tr {s : Int} {a b c : Int → Int} (p : zOs s a b) (q : zOs s b c) : zOs s a c := fun k hk => (q k hk).trans (p k hk)
/-- a good is sold -/
def fSel (a : Int → Int) (s g : Int) : Int → Int := if 0 < a (153 + 15 * s + g) ∧ a (57 + 15 * a (146 + 15 * s) + g) ≠ 0 then fSell a s g (a (153 + 15 * s + g)) else a
def fSA (a : Int → Int) (s : Int) : Nat → Int → Int
  | 0 => a
  | n + 1 => fSel (fSA a s n) s n
def fGoN (a : Int → Int) (s : Int) : Nat → Int → Int
  | 0 => a
  | n + 1 => (fGo (fGoN a s n) s).1
def fPr (a : Int → Int) (s g : Int) : Int := a (57 + 15 * a (146 + 15 * s) + g)
def fNb (a : Int → Int) (s g : Int) : Int := min (a (149 + 15 * s) - fTons (fLd a s)) (a (150 + 15 * s) / fPr a s g)
def fVs (a : Int → Int) (s p : Int) : Int → Int := fGoN (fSail a s p) s (a (65 + 15 * a (146 + 15 * s) + p)).toNat
def fLg2 (a : Int → Int) (s p g : Int) : Option (Int → Int) := if g = 8 then some (fVs a s p) else if g < a 1 ∧ fPr a s g ≠ 0 ∧ fNb a s g ≠ 0 then some (fVs (fBuy a s g (fNb a s g)) s p) else none
def fLeg (a : Int → Int) (s p g : Int) : Option (Int → Int) := if p < a 2 ∧ a (146 + 15 * s) ≠ p ∧ a (65 + 15 * a (146 + 15 * s) + p) ≠ 0 then fLg2 (fSA a s (a 1).toNat) s p g else none
/-- all voyages of so many legs: the most coins, the first choice -/
def fVo : Nat → (Int → Int) → Int → Int → Int × Int → Int × Int
  | 0, a, s, f, σ => if fSA a s (a 1).toNat (150 + 15 * s) ≤ σ.1 then σ else (fSA a s (a 1).toNat (150 + 15 * s), f)
  | n + 1, a, s, f, σ => zFold 54 0 (fun c z => match fLeg a s (c / 9) (c % 9) with
      | none => z
      | some b => fVo n b s (if f = -1 then c else f) z) σ
def fVc (n : Nat) (a : Int → Int) (s f : Int) : Int → Int × Int → Int × Int := fun c z => match fLeg a s (c / 9) (c % 9) with
  | none => z
  | some b => fVo n b s (if f = -1 then c else f) z
theorem fVo_s {n : Nat} {a : Int → Int} {s f : Int} {σ : Int × Int} : fVo (n + 1) a s f σ = zFold 54 0 (fVc n a s f) σ := rfl
theorem fVc_0 {n : Nat} {a : Int → Int} {s f c : Int} {z : Int × Int} (e : fLeg a s (c / 9) (c % 9) = none) : fVc n a s f c z = z := by
  unfold fVc
  rw [e]
theorem fVc_1 {n : Nat} {a b : Int → Int} {s f c : Int} {z : Int × Int} (e : fLeg a s (c / 9) (c % 9) = some b) : fVc n a s f c z = fVo n b s (if f = -1 then c else f) z := by
  unfold fVc
  rw [e]
/-! one good sold -/
section VL
variable {s : Int} {a b : Int → Int}
theorem zHp_at (v : zIv a) (s0 : 0 ≤ s) (s1 : s < a 3) (hp : ¬ 0 < a (148 + 15 * s)) : a (148 + 15 * s) = 0 ∧ a (147 + 15 * s) = -1 ∧ 0 ≤ a (146 + 15 * s) ∧ a (146 + 15 * s) < a 2 ∧ a (146 + 15 * s) < 6 ∧ a (146 + 15 * s) ≠ -1 := by
  have h := zIsea v s s0 s1
  have h2 := (zIports v).2
  have h3 := h.2.2 (by omega)
  omega
theorem fSel_at {g k : Int} (hk : k ≠ 150 + 15 * s) (h2 : k ≠ 153 + 15 * s + g) : fSel a s g k = a k := by
  unfold fSel
  split
  · unfold fSell
    rw [zU_ne hk, zU_ne h2]
  · rfl
theorem fSel_ok {g : Int} (v : zIv a) (s0 : 0 ≤ s) (s1 : s < a 3) (hp : ¬ 0 < a (148 + 15 * s)) (c : 0 < a (153 + 15 * s + g)) (ok : fSellOk a s g (a (153 + 15 * s + g))) : fSel a s g = fSell a s g (a (153 + 15 * s + g)) := if_pos ⟨c, ok.2.1⟩
theorem fSel_no {g : Int} (v : zIv a) (s0 : 0 ≤ s) (s1 : s < a 3) (hp : ¬ 0 < a (148 + 15 * s)) (ok : ¬ fSellOk a s g (a (153 + 15 * s + g))) : fSel a s g = a := if_neg (fun q => ok ⟨(zHp_at v s0 s1 hp).2.2.2.2.2, q.2, Int.le_refl _⟩)
theorem zIv_sel {g : Int} (v : zIv a) (s0 : 0 ≤ s) (s1 : s < a 3) (hp : ¬ 0 < a (148 + 15 * s)) (g0 : 0 ≤ g) (g1 : g < a 1) : zIv (fSel a s g) := by
  have bg := (zIgd v).2.1
  have b3 := (zIships v).2
  have ht := zIton v s g s0 (by omega) g0 (by omega)
  unfold fSel
  split
  · rename_i c
    exact zIv_sell v ⟨⟨s0, s1⟩, ⟨g0, g1⟩, by omega, ht.2.1⟩ ⟨(zHp_at v s0 s1 hp).2.2.2.2.2, c.2, Int.le_refl _⟩
  · exact v
theorem fSA_f (v : zIv a) (s0 : 0 ≤ s) (s1 : s < a 3) (hp : ¬ 0 < a (148 + 15 * s)) : ∀ n : Nat, (n : Int) ≤ a 1 → zIv (fSA a s n) ∧ ∀ k, k ≠ 150 + 15 * s → (k < 153 + 15 * s ∨ 161 + 15 * s ≤ k) → fSA a s n k = a k
  | 0, _ => ⟨v, fun _ _ _ => rfl⟩
  | n + 1, hn => by
    have bg := (zIgd v).2.1
    have b3 := (zIships v).2
    obtain ⟨h1, h2⟩ := fSA_f v s0 s1 hp n (by omega)
    have e3 := h2 3 (by omega) (by omega)
    have e1 := h2 1 (by omega) (by omega)
    have e8 := h2 (148 + 15 * s) (by omega) (by omega)
    refine ⟨zIv_sel h1 s0 (by omega) (by omega) (by omega) (by omega), fun k k1 k2 => ?_⟩
    show fSel (fSA a s n) s n k = a k
    rw [fSel_at k1 (by omega)]
    exact h2 k k1 k2
theorem fSA_all (v : zIv a) (s0 : 0 ≤ s) (s1 : s < a 3) (hp : ¬ 0 < a (148 + 15 * s)) : zIv (fSA a s (a 1).toNat) ∧ ∀ k, k ≠ 150 + 15 * s → (k < 153 + 15 * s ∨ 161 + 15 * s ≤ k) → fSA a s (a 1).toNat k = a k := fSA_f v s0 s1 hp _ (by have := (zIgd v).2.1; omega)
theorem fSA_os (v : zIv a) (s0 : 0 ≤ s) (s1 : s < a 3) (hp : ¬ 0 < a (148 + 15 * s)) : zOs s a (fSA a s (a 1).toNat) := fun k hk => (fSA_all v s0 s1 hp).2 k (by omega) (by omega)
theorem fSel_q {g : Int} (v : zIv a) (s0 : 0 ≤ s) (s1 : s < a 3) (hp : ¬ 0 < a (148 + 15 * s)) (g0 : 0 ≤ g) (g1 : g < 8) (q : zQs s a b) : zQs s (fSel a s g) (fSel b s g) := by
  obtain ⟨-, -, p0, -, p1, -⟩ := zHp_at v s0 s1 hp
  have e1 := q (146 + 15 * s) (by omega) (by omega)
  have e2 := q (153 + 15 * s + g) (by omega) (by omega)
  have e3 := q (57 + 15 * a (146 + 15 * s) + g) (by omega) (by omega)
  have e4 := q (150 + 15 * s) (by omega) (by omega)
  unfold fSel
  rw [e1, e2, e3]
  by_cases c : 0 < a (153 + 15 * s + g) ∧ a (57 + 15 * a (146 + 15 * s) + g) ≠ 0
  · rw [if_pos c, if_pos c]
    unfold fSell
    rw [e1, e2, e3, e4]
    exact zQs_u (zQs_u q)
  · rw [if_neg c, if_neg c]
    exact q
theorem fSA_q (v : zIv a) (s0 : 0 ≤ s) (s1 : s < a 3) (hp : ¬ 0 < a (148 + 15 * s)) (q : zQs s a b) : ∀ n : Nat, (n : Int) ≤ a 1 → zQs s (fSA a s n) (fSA b s n)
  | 0, _ => q
  | n + 1, hn => by
    have bg := (zIgd v).2.1
    have b3 := (zIships v).2
    obtain ⟨h1, h2⟩ := fSA_f v s0 s1 hp n (by omega)
    have e3 := h2 3 (by omega) (by omega)
    have e8 := h2 (148 + 15 * s) (by omega) (by omega)
    exact fSel_q h1 s0 (by omega) (by omega) (by omega) (by omega) (fSA_q v s0 s1 hp q n (by omega))
/-! a day -/
theorem fPay_q (v : zIv a) (s0 : 0 ≤ s) (s1 : s < a 3) (q : zQs s a b) : zQs s (fPay a s) (fPay b s) := by
  have hb := fFl_b (a := a) (s := s)
  have eF := fFl_q (zIgd v).2.1.2 q s0
  unfold fPay
  rw [q (146 + 15 * s) (by omega) (by omega), eF, q (150 + 15 * s) (by omega) (by omega), q (8 + 4 * fFl a s) (by omega) (by omega)]
  by_cases c : a (146 + 15 * s) = -1 ∧ fFl a s ≠ -1
  · rw [if_pos c, if_pos c]
    by_cases c2 : a (150 + 15 * s) < a (8 + 4 * fFl a s)
    · rw [if_pos c2, if_pos c2]
      exact zQs_x q
    · rw [if_neg c2, if_neg c2]
      exact zQs_u q
  · rw [if_neg c, if_neg c]
    exact q
theorem fLeak_q (s0 : 0 ≤ s) (q : zQs s a b) : zQs s (fLeak a s) (fLeak b s) := fun k k1 k2 => by
  unfold fLeak
  by_cases c : 153 + 15 * s ≤ k ∧ k < 161 + 15 * s
  · rw [if_pos c, if_pos c]
    unfold fLk fLd
    rw [q 1 (by omega) (by omega), q (34 + 3 * (k - (153 + 15 * s))) (by omega) (by omega), q (153 + 15 * s + (k - (153 + 15 * s))) (by omega) (by omega)]
  · rw [if_neg c, if_neg c]
    exact q k k1 k2
theorem fTick_q (q : zQs s a b) : zQs s (fTick a s) (fTick b s) := by
  unfold fTick
  rw [q (148 + 15 * s) (by omega) (by omega)]
  exact zQs_u q
theorem fLand_q (q : zQs s a b) : zQs s (fLand a s) (fLand b s) := by
  unfold fLand
  rw [q (147 + 15 * s) (by omega) (by omega)]
  exact zQs_u (zQs_u q)
theorem fDuty_q {n : Int} (s0 : 0 ≤ s) (n0 : 0 ≤ n) (n1 : n < 6) (q : zQs s a b) : zQs s (fDuty a s n) (fDuty b s n) := by
  unfold fDuty fDue
  rw [q (150 + 15 * s) (by omega) (by omega), q (9 + 4 * n) (by omega) (by omega), fTons_q q]
  exact zQs_y (zQs_u q)
theorem fCome_q (h8 : a 1 ≤ 8) (s0 : 0 ≤ s) (t0 : 0 ≤ a (147 + 15 * s)) (t1 : a (147 + 15 * s) < 6) (n0 : -1 ≤ a (56 + 15 * a (147 + 15 * s))) (n1 : a (56 + 15 * a (147 + 15 * s)) < 6) (q : zQs s a b) : zQs s (fCome a s) (fCome b s) := by
  have ql := fLand_q q
  have eF := fFl_q (a := fLand a s) (by rw [fLand_ne (by omega) (by omega)]; exact h8) ql s0
  unfold fCome
  rw [q (147 + 15 * s) (by omega) (by omega), q (56 + 15 * a (147 + 15 * s)) (by omega) (by omega), eF]
  by_cases c : a (56 + 15 * a (147 + 15 * s)) = -1 ∨ fFl (fLand a s) s = a (56 + 15 * a (147 + 15 * s))
  · rw [if_pos c, if_pos c]
    exact ql
  · rw [if_neg c, if_neg c]
    exact fDuty_q s0 (by omega) n1 ql
theorem fGo_q (v : zIv a) (s0 : 0 ≤ s) (s1 : s < a 3) (q : zQs s a b) : zQs s (fGo a s).1 (fGo b s).1 := by
  have b2 := (zIports v).2
  have b0 := (zIgd v).1
  have q1 := fLeak_q s0 (fPay_q v s0 s1 q)
  unfold fGo
  rw [q (146 + 15 * s) (by omega) (by omega), q (148 + 15 * s) (by omega) (by omega)]
  by_cases c1 : a (146 + 15 * s) ≠ -1
  · rw [if_pos c1, if_pos c1]
    exact q1
  · rw [if_neg c1, if_neg c1]
    by_cases c2 : 0 < a (148 + 15 * s) - 1
    · rw [if_pos c2, if_pos c2]
      exact fTick_q q1
    · rw [if_neg c2, if_neg c2]
      obtain ⟨f1, f2, f3, f4, f5, f6, f7, f8, f9⟩ := fCome_f v s0 s1 (by omega) c2
      refine fCome_q ?_ s0 (by omega) (by omega) ?_ ?_ (fTick_q q1)
      · rw [fTick_ne (by omega), fLeak_ne (by omega), fPay_ne (by omega) (by omega)]
        exact (zIgd v).2.1.2
      · rw [f4, f6]; omega
      · rw [f4, f6]; omega
theorem fGo_os (s0 : 0 ≤ s) : zOs s a (fGo a s).1 := fun k hk => by
  have e1 : fLeak (fPay a s) s k = a k := by rw [fLeak_ne (by omega), fPay_ne (by omega) (by omega)]
  have e2 : fTick (fLeak (fPay a s) s) s k = a k := by rw [fTick_ne (by omega), e1]
  unfold fGo
  split
  · exact e1
  · split
    · exact e2
    · show fCome (fTick (fLeak (fPay a s) s) s) s k = a k
      unfold fCome
      split
      · rw [fLand_ne (by omega) (by omega)]
        exact e2
      · rw [fDuty_ne (by omega) (by omega), fLand_ne (by omega) (by omega)]
        exact e2
theorem fGo_left (hs : a (146 + 15 * s) = -1) : (fGo a s).1 (148 + 15 * s) = a (148 + 15 * s) - 1 := by
  have e1 : fLeak (fPay a s) s (148 + 15 * s) = a (148 + 15 * s) := by rw [fLeak_ne (by omega), fPay_ne (by omega) (by omega)]
  have e2 : fTick (fLeak (fPay a s) s) s (148 + 15 * s) = a (148 + 15 * s) - 1 := by
    show zU (fLeak (fPay a s) s) (148 + 15 * s) (fLeak (fPay a s) s (148 + 15 * s) - 1) (148 + 15 * s) = _
    rw [zU_eq, e1]
  unfold fGo
  rw [if_neg (fun q => q hs)]
  split
  · exact e2
  · show fCome (fTick (fLeak (fPay a s) s) s) s (148 + 15 * s) = _
    unfold fCome
    split
    · rw [fLand_ne (by omega) (by omega)]
      exact e2
    · rw [fDuty_ne (by omega) (by omega), fLand_ne (by omega) (by omega)]
      exact e2
theorem fGoN_f (v : zIv a) (s0 : 0 ≤ s) (s1 : s < a 3) : ∀ n : Nat, (n : Int) ≤ a (148 + 15 * s) → zIv (fGoN a s n) ∧ fGoN a s n (148 + 15 * s) = a (148 + 15 * s) - n ∧ zOs s a (fGoN a s n)
  | 0, _ => ⟨v, by show a (148 + 15 * s) = a (148 + 15 * s) - ((0 : Nat) : Int); omega, zOs_rf⟩
  | n + 1, hn => by
    have b3 := (zIships v).2
    obtain ⟨h1, h2, h3⟩ := fGoN_f v s0 s1 n (by omega)
    have e3 := h3 3 (by omega)
    have hs := ((zIsea h1 s s0 (by omega)).2.1 (by omega)).1
    have hl := fGo_left hs
    refine ⟨zIv_go h1 s0 (by omega), ?_, zOs_tr h3 (fGo_os s0)⟩
    show (fGo (fGoN a s n) s).1 (148 + 15 * s) = _
    omega
theorem fGoN_q (v : zIv a) (s0 : 0 ≤ s) (s1 : s < a 3) (q : zQs s a b) : ∀ n : Nat, (n : Int) ≤ a (148 + 15 * s) → zQs s (fGoN a s n) (fGoN b s n)
  | 0, _ => q
  | n + 1, hn => by
    have b3 := (zIships v).2
    obtain ⟨h1, h2, h3⟩ := fGoN_f v s0 s1 n (by omega)
    have e3 := h3 3 (by omega)
    exact fGo_q h1 s0 (by omega) (fGoN_q v s0 s1 q n (by omega))
/-! a leg -/
theorem fSail_f {p : Int} (v : zIv a) (s0 : 0 ≤ s) (s1 : s < a 3) (p0 : 0 ≤ p) (p1 : p < a 2) (ok : fSailOk a s p) : zIv (fSail a s p) ∧ fSail a s p (148 + 15 * s) = a (65 + 15 * a (146 + 15 * s) + p) ∧ zOs s a (fSail a s p) ∧ 0 ≤ a (65 + 15 * a (146 + 15 * s) + p) ∧ a (65 + 15 * a (146 + 15 * s) + p) ≤ 20 := by
  have b2 := (zIports v).2
  obtain ⟨q0, q1, q2⟩ := zAt_b v s0 s1 ok.1
  have hw := zIway v _ p q0 q1 p0 (by omega)
  refine ⟨zIv_sail v s0 s1 p0 p1 ok, ?_, fun k hk => ?_, hw.1, hw.2.1⟩
  · unfold fSail
    rw [zU_eq]
  · unfold fSail
    rw [zU_ne (by omega), zU_ne (by omega), zU_ne (by omega)]
theorem fVs_f {p : Int} (v : zIv a) (s0 : 0 ≤ s) (s1 : s < a 3) (p0 : 0 ≤ p) (p1 : p < a 2) (ok : fSailOk a s p) : zIv (fVs a s p) ∧ ¬ 0 < fVs a s p (148 + 15 * s) ∧ zOs s a (fVs a s p) := by
  obtain ⟨h1, h2, h3, h4, h5⟩ := fSail_f v s0 s1 p0 p1 ok
  have b3 := (zIships v).2
  have e3 := h3 3 (by omega)
  obtain ⟨g1, g2, g3⟩ := fGoN_f h1 s0 (by omega) (a (65 + 15 * a (146 + 15 * s) + p)).toNat (by omega)
  unfold fVs
  exact ⟨g1, by omega, zOs_tr h3 g3⟩
theorem fVs_q {p : Int} (v : zIv a) (s0 : 0 ≤ s) (s1 : s < a 3) (p0 : 0 ≤ p) (p1 : p < a 2) (ok : fSailOk a s p) (q : zQs s a b) : zQs s (fVs a s p) (fVs b s p) := by
  obtain ⟨h1, h2, h3, h4, h5⟩ := fSail_f v s0 s1 p0 p1 ok
  have b2 := (zIports v).2
  have b3 := (zIships v).2
  have e3 := h3 3 (by omega)
  obtain ⟨r0, r1, -⟩ := zAt_b v s0 s1 ok.1
  have e1 := q (146 + 15 * s) (by omega) (by omega)
  have e2 := q (65 + 15 * a (146 + 15 * s) + p) (by omega) (by omega)
  unfold fVs
  rw [e1, e2]
  refine fGoN_q h1 s0 (by omega) ?_ _ (by omega)
  unfold fSail
  rw [e1, e2]
  exact zQs_u (zQs_u (zQs_u q))
theorem fBuy_ok {g : Int} (v : zIv a) (s0 : 0 ≤ s) (s1 : s < a 3) (hp : ¬ 0 < a (148 + 15 * s)) (g0 : 0 ≤ g) (g1 : g < 8) (c : fPr a s g ≠ 0) : 0 ≤ fNb a s g ∧ fNb a s g ≤ 60 ∧ (fNb a s g ≠ 0 → fBuyOk a s g (fNb a s g)) ∧ 0 < fPr a s g ∧ fPr a s g ≤ 99 ∧ 0 ≤ a (150 + 15 * s) / fPr a s g := by
  obtain ⟨-, -, p0, -, p1, pn⟩ := zHp_at v s0 s1 hp
  have hc := zIcoin v s s0 s1
  have hf := zIfull v s s0 s1
  have hh := zIhold v s s0 s1
  have hr := zIpr v _ g p0 p1 g0 g1
  have b3 := (zIships v).2
  have ht : 0 ≤ fTons (fLd a s) := by
    have h9 := fTons_le (f := fun _ => 0) (g := fLd a s) (fun i i0 i1 => (zIton v s i s0 (by omega) i0 i1).1)
    exact h9
  have hq := Int.ediv_nonneg hc.1 (show 0 ≤ fPr a s g from hr.1)
  have c' : 0 < fPr a s g := by
    have : 0 ≤ fPr a s g := hr.1
    omega
  refine ⟨?_, ?_, fun _ => ⟨pn, c, ?_, ?_⟩, c', hr.2, hq⟩
  · unfold fNb
    omega
  · unfold fNb
    omega
  · unfold fNb
    omega
  · have h1 : fNb a s g ≤ a (150 + 15 * s) / fPr a s g := by
      unfold fNb
      omega
    have h2 := Int.mul_le_mul_of_nonneg_right h1 (show 0 ≤ fPr a s g by omega)
    have h3 := Int.ediv_mul_le (a (150 + 15 * s)) c
    exact Int.le_trans h2 h3
theorem fBuy_f {g n : Int} (v : zIv a) (s0 : 0 ≤ s) (s1 : s < a 3) (g0 : 0 ≤ g) (g1 : g < a 1) (n0 : 1 ≤ n) (n1 : n ≤ 60) (ok : fBuyOk a s g n) : zIv (fBuy a s g n) ∧ ∀ k, k ≠ 150 + 15 * s → k ≠ 153 + 15 * s + g → fBuy a s g n k = a k := by
  refine ⟨zIv_buy v ⟨⟨s0, s1⟩, ⟨g0, g1⟩, n0, n1⟩ ok, fun k k1 k2 => ?_⟩
  unfold fBuy
  rw [zU_ne k1, zU_ne k2]
/-- a leg that can be sailed -/
theorem fLg2_f {p g : Int} {z : Int → Int} (v : zIv a) (s0 : 0 ≤ s) (s1 : s < a 3) (hp : ¬ 0 < a (148 + 15 * s)) (p0 : 0 ≤ p) (p1 : p < a 2) (g0 : 0 ≤ g) (g1 : g ≤ 8) (ok : fSailOk a s p) (e : fLg2 a s p g = some z) : zIv z ∧ ¬ 0 < z (148 + 15 * s) ∧ zOs s a z := by
  have bg := (zIgd v).2.1
  have b2 := (zIports v).2
  obtain ⟨-, -, r0, -, r1, rn⟩ := zHp_at v s0 s1 hp
  unfold fLg2 at e
  split at e
  · rw [← Option.some.inj e]
    exact fVs_f v s0 s1 p0 p1 ok
  · split at e
    · rename_i c1 c
      obtain ⟨n0, n1, n2, -⟩ := fBuy_ok v s0 s1 hp g0 (by omega) c.2.1
      obtain ⟨h1, h2⟩ := fBuy_f v s0 s1 g0 c.1 (by omega) n1 (n2 c.2.2)
      have b3 := (zIships v).2
      have e3 := h2 3 (by omega) (by omega)
      have e2 := h2 2 (by omega) (by omega)
      have e6 := h2 (146 + 15 * s) (by omega) (by omega)
      have ew := h2 (65 + 15 * a (146 + 15 * s) + p) (by omega) (by omega)
      rw [← Option.some.inj e]
      have ok2 : fSailOk (fBuy a s g (fNb a s g)) s p := by
        unfold fSailOk
        rw [e6, ew]
        exact ok
      obtain ⟨h3, h4, h5⟩ := fVs_f h1 s0 (by omega) p0 (by omega) ok2
      exact ⟨h3, h4, fun k hk => (h5 k hk).trans (h2 k (by omega) (by omega))⟩
    · cases e
theorem fLg2_q {p g : Int} (v : zIv a) (s0 : 0 ≤ s) (s1 : s < a 3) (hp : ¬ 0 < a (148 + 15 * s)) (p0 : 0 ≤ p) (p1 : p < a 2) (g0 : 0 ≤ g) (g1 : g ≤ 8) (ok : fSailOk a s p) (q : zQs s a b) : (fLg2 a s p g = none ∧ fLg2 b s p g = none) ∨ ∃ x y, fLg2 a s p g = some x ∧ fLg2 b s p g = some y ∧ zQs s x y := by
  have bg := (zIgd v).2.1
  have b2 := (zIports v).2
  obtain ⟨-, -, r0, -, r1, rn⟩ := zHp_at v s0 s1 hp
  unfold fLg2
  by_cases c1 : g = 8
  · rw [if_pos c1, if_pos c1]
    exact Or.inr ⟨_, _, rfl, rfl, fVs_q v s0 s1 p0 p1 ok q⟩
  · rw [if_neg c1, if_neg c1]
    have e1 := q (146 + 15 * s) (by omega) (by omega)
    have e3 := q (57 + 15 * a (146 + 15 * s) + g) (by omega) (by omega)
    have e4 := q (150 + 15 * s) (by omega) (by omega)
    have eP : fPr b s g = fPr a s g := by
      unfold fPr
      rw [e1, e3]
    have eN : fNb b s g = fNb a s g := by
      unfold fNb
      rw [eP, e4, q (149 + 15 * s) (by omega) (by omega), fTons_q q]
    rw [eP, eN, q 1 (by omega) (by omega)]
    by_cases c : g < a 1 ∧ fPr a s g ≠ 0 ∧ fNb a s g ≠ 0
    · rw [if_pos c, if_pos c]
      obtain ⟨n0, n1, n2, -⟩ := fBuy_ok v s0 s1 hp g0 (by omega) c.2.1
      obtain ⟨h1, h2⟩ := fBuy_f v s0 s1 g0 c.1 (by omega) n1 (n2 c.2.2)
      have b3 := (zIships v).2
      have f3 := h2 3 (by omega) (by omega)
      have f2 := h2 2 (by omega) (by omega)
      have f6 := h2 (146 + 15 * s) (by omega) (by omega)
      have fw := h2 (65 + 15 * a (146 + 15 * s) + p) (by omega) (by omega)
      refine Or.inr ⟨_, _, rfl, rfl, fVs_q h1 s0 (by omega) p0 (by omega) ?_ ?_⟩
      · unfold fSailOk
        rw [f6, fw]
        exact ok
      · unfold fBuy
        rw [e1, e3, e4, q (153 + 15 * s + g) (by omega) (by omega)]
        exact zQs_u (zQs_u q)
    · rw [if_neg c, if_neg c]
      exact Or.inl ⟨rfl, rfl⟩
/-- the ship can sail from the place where all is sold -/
theorem fLeg_ok {p : Int} (v : zIv a) (s0 : 0 ≤ s) (s1 : s < a 3) (hp : ¬ 0 < a (148 + 15 * s)) (p0 : 0 ≤ p) (c : p < a 2 ∧ a (146 + 15 * s) ≠ p ∧ a (65 + 15 * a (146 + 15 * s) + p) ≠ 0) : zIv (fSA a s (a 1).toNat) ∧ fSA a s (a 1).toNat 3 = a 3 ∧ fSA a s (a 1).toNat 2 = a 2 ∧ fSA a s (a 1).toNat 1 = a 1 ∧ ¬ 0 < fSA a s (a 1).toNat (148 + 15 * s) ∧ fSailOk (fSA a s (a 1).toNat) s p ∧ fSA a s (a 1).toNat (146 + 15 * s) = a (146 + 15 * s) ∧ fSA a s (a 1).toNat (65 + 15 * a (146 + 15 * s) + p) = a (65 + 15 * a (146 + 15 * s) + p) := by
  have b2 := (zIports v).2
  have b3 := (zIships v).2
  obtain ⟨-, -, r0, -, r1, rn⟩ := zHp_at v s0 s1 hp
  obtain ⟨h1, h2⟩ := fSA_all v s0 s1 hp
  have e6 := h2 (146 + 15 * s) (by omega) (by omega)
  have ew := h2 (65 + 15 * a (146 + 15 * s) + p) (by omega) (by omega)
  have e8 := h2 (148 + 15 * s) (by omega) (by omega)
  refine ⟨h1, h2 3 (by omega) (by omega), h2 2 (by omega) (by omega), h2 1 (by omega) (by omega), by omega, ?_, e6, ew⟩
  unfold fSailOk
  rw [e6, ew]
  exact ⟨rn, c.2.1, c.2.2⟩
theorem fLeg_f {p g : Int} {z : Int → Int} (v : zIv a) (s0 : 0 ≤ s) (s1 : s < a 3) (hp : ¬ 0 < a (148 + 15 * s)) (p0 : 0 ≤ p) (g0 : 0 ≤ g) (g1 : g ≤ 8) (e : fLeg a s p g = some z) : zIv z ∧ ¬ 0 < z (148 + 15 * s) ∧ zOs s a z := by
  unfold fLeg at e
  split at e
  · rename_i c
    obtain ⟨h1, h3, h2, -, h8, ok, -⟩ := fLeg_ok v s0 s1 hp p0 c
    obtain ⟨z1, z2, z3⟩ := fLg2_f h1 s0 (by omega) h8 p0 (by omega) g0 g1 ok e
    exact ⟨z1, z2, zOs_tr (fSA_os v s0 s1 hp) z3⟩
  · cases e
theorem fLeg_q {p g : Int} (v : zIv a) (s0 : 0 ≤ s) (s1 : s < a 3) (hp : ¬ 0 < a (148 + 15 * s)) (p0 : 0 ≤ p) (g0 : 0 ≤ g) (g1 : g ≤ 8) (q : zQs s a b) : (fLeg a s p g = none ∧ fLeg b s p g = none) ∨ ∃ x y, fLeg a s p g = some x ∧ fLeg b s p g = some y ∧ zQs s x y := by
  have bg := (zIgd v).2.1
  have b2 := (zIports v).2
  obtain ⟨-, -, r0, -, r1, rn⟩ := zHp_at v s0 s1 hp
  unfold fLeg
  have e1 := q (146 + 15 * s) (by omega) (by omega)
  rw [e1, q 2 (by omega) (by omega), q 1 (by omega) (by omega)]
  by_cases pw : p < a 2
  · rw [q (65 + 15 * a (146 + 15 * s) + p) (by omega) (by omega)]
    by_cases c : p < a 2 ∧ a (146 + 15 * s) ≠ p ∧ a (65 + 15 * a (146 + 15 * s) + p) ≠ 0
    · rw [if_pos c, if_pos c]
      obtain ⟨h1, h3, h2, -, h8, ok, -⟩ := fLeg_ok v s0 s1 hp p0 c
      exact fLg2_q h1 s0 (by omega) h8 p0 (by omega) g0 g1 ok (fSA_q v s0 s1 hp q _ (by omega))
    · rw [if_neg c, if_neg c]
      exact Or.inl ⟨rfl, rfl⟩
  · rw [if_neg (fun c => pw c.1), if_neg (fun c => pw c.1)]
    exact Or.inl ⟨rfl, rfl⟩
end VL
theorem fVo_q {s : Int} : ∀ (n : Nat) {a b : Int → Int} {f : Int} {σ : Int × Int}, zIv a → 0 ≤ s → s < a 3 → ¬ 0 < a (148 + 15 * s) → zQs s a b → fVo n b s f σ = fVo n a s f σ
  | 0, a, b, f, σ, v, s0, s1, hp, q => by
    have bg := (zIgd v).2.1
    show (if fSA b s (b 1).toNat (150 + 15 * s) ≤ σ.1 then σ else (fSA b s (b 1).toNat (150 + 15 * s), f)) = (if fSA a s (a 1).toNat (150 + 15 * s) ≤ σ.1 then σ else (fSA a s (a 1).toNat (150 + 15 * s), f))
    rw [q 1 (by omega) (by omega), fSA_q v s0 s1 hp q _ (by omega) (150 + 15 * s) (by omega) (by omega)]
  | n + 1, a, b, f, σ, v, s0, s1, hp, q => by
    have b3 := (zIships v).2
    rw [fVo_s, fVo_s]
    refine zFold_congr _ _ (fun c c0 c1 z => ?_)
    rcases fLeg_q (p := c / 9) (g := c % 9) v s0 s1 hp (by omega) (by omega) (by omega) q with ⟨e1, e2⟩ | ⟨x, y, e1, e2, e3⟩
    · rw [fVc_0 e1, fVc_0 e2]
    · rw [fVc_1 e1, fVc_1 e2]
      obtain ⟨z1, z2, z3⟩ := fLeg_f v s0 s1 hp (by omega) (by omega) (by omega) e1
      exact fVo_q n z1 s0 (by rw [z3 3 (by omega)]; exact s1) z2 e3
/-- what the search has found: nothing, or coins and a choice -/
def zVk (σ : Int × Int) : Prop := σ.1 = -1 ∨ ((0 ≤ σ.1 ∧ σ.1 ≤ 9999) ∧ 0 ≤ σ.2 ∧ σ.2 < 54)
theorem fVo_k {s : Int} : ∀ (n : Nat) {a : Int → Int} {f : Int} {σ : Int × Int}, zIv a → 0 ≤ s → s < a 3 → ¬ 0 < a (148 + 15 * s) → (f = -1 → 0 < n) → -1 ≤ f → f < 54 → zVk σ → zVk (fVo n a s f σ)
  | 0, a, f, σ, v, s0, s1, hp, hf, f0, f1, k => by
    show zVk (if fSA a s (a 1).toNat (150 + 15 * s) ≤ σ.1 then σ else (fSA a s (a 1).toNat (150 + 15 * s), f))
    have b3 := (zIships v).2
    have h9 := fSA_all v s0 s1 hp
    have hc := zIcoin h9.1 s s0 (by rw [h9.2 3 (by omega) (by omega)]; exact s1)
    split
    · exact k
    · exact Or.inr ⟨hc, by have : f ≠ -1 := fun e => absurd (hf e) (by omega)
                           omega, f1⟩
  | n + 1, a, f, σ, v, s0, s1, hp, hf, f0, f1, k => by
    have b3 := (zIships v).2
    rw [fVo_s]
    refine zFold_inv (Pr := zVk) _ k (fun c z c0 c1 hz => ?_)
    cases e : fLeg a s (c / 9) (c % 9) with
    | none =>
      rw [fVc_0 e]
      exact hz
    | some b =>
      rw [fVc_1 e]
      obtain ⟨z1, z2, z3⟩ := fLeg_f v s0 s1 hp (by omega) (by omega) (by omega) e
      refine fVo_k n z1 s0 (by rw [z3 3 (by omega)]; exact s1) z2 ?_ ?_ ?_ hz
      · intro q
        split at q <;> omega
      · split <;> omega
      · split <;> omega
/-! the reference -/
section O37
variable {d : Nat} {h : zHp} {Q : zRs → Prop} {a f nm : Int → Int}

theorem kM_keepsShip {s l : Int} (P : zMk h) (s0 : 0 ≤ s) (s4 : s < 4) (l0 : 0 ≤ l) (l3 : l ≤ 3) (hQ : ∀ F, (∀ i, 0 ≤ i → i < 15 → F (15 * l + i) = a (146 + 15 * s + i)) → (∀ k, (k < 15 * l ∨ 15 * l + 15 ≤ k) → F k = gI h 124 k) → Q (zRn (zH2 (sIA h 124 F) a f))) : zCm mX6_keepsShip d [zr (some 113), zi s, zi l] (zH2 h a f) Q := by
  have PF : ∀ F, zMk (sIA h 124 F) := fun _ => P
  have s5 : ∀ F j x, sI (zH2 (sIA h 124 F) a f) 124 j x = zH2 (sIA h 124 (zU F j x)) a f := fun F j x => by rw [zH2_sIne (by decide) (by decide), sIA_sI]
  simp (disch := (first | (simp only [gK_sI, gK_sJ, gK_sR, gK_sIA, gK_sJA, gR_sI, gR_sJ, gR_sIA, Nat.reduceLeDiff, Nat.reduceEqDiff, Nat.reduceLT, Int.reduceLE, Int.reduceLT, Int.reduceEq, zWt_i, zWt_l, zWt_r, zWt_n, zH2_gK, zH2_mk, P, zMkk P, zMr0 P, zMk0 P, zMr29 P, zMk29 P] <;> omega) | omega | fail)) only [if_pos, if_neg, wI_id, zLc_lt, zLc_gt, zLc_eq, zLc_le, zLc_ge, Int.reduceEq, Int.reduceLE, Int.reduceLT, Int.reduceNeg, Int.reduceAdd, Int.reduceMul, Int.reduceSub, not_true_eq_false, not_false_eq_true, reduceIte, zPo_v, zPo_n, zPo_t, zKl_i, zKl_r, zKl_n, zKl_l, gK_sI, gK_sJ, gK_sR, gK_sIA, gK_sJA, gR_sI, gR_sJ, gJ_sI, gI_sJ, gI_sR, gJ_sR, gR_sIA, gJ_sIA, Nat.reduceLeDiff, Nat.reduceEqDiff, and_self, and_true, true_and, and_false, false_and, eX6_keepsShip_0, eX6_keepsShip_1, eX6_keepsShip_3, eX6_keepsShip_5, eX6_keepsShip_8, eX6_keepsShip_9, eX6_keepsShip_12, eX6_keepsShip_14, eX6_keepsShip_15, eX6_keepsShip_16, eX6_keepsShip_17, eX6_keepsShip_18, eX6_keepsShip_19, eX6_keepsShip_22, eX6_keepsShip_23, eX6_keepsShip_26, eX6_keepsShip_27, eX6_keepsShip_28, eX6_keepsShip_29, eX6_keepsShip_30, eX6_keepsShip_33, eX6_keepsShip_36, eX6_keepsShip_in, zH2_gK, zH2_gR, zH2_at, zH2_sI, zU_ne, P, zMkk P, zMr0 P, zMk0 P, zMr29 P, zMk29 P]
  refine zLoop 15 (fun i ls h' => 0 ≤ i ∧ ∃ F, h' = zH2 (sIA h 124 F) a f ∧ ls = [some (zr (some 113)), some (zi s), some (zi l), some (zi i)] ∧ (∀ j, 0 ≤ j → j < i → F (15 * l + j) = a (146 + 15 * s + j)) ∧ ∀ k, (k < 15 * l ∨ 15 * l + 15 ≤ k) → F k = gI h 124 k) ?_ ?_ 0 _ _ (by omega) ⟨by omega, gI h 124, by rw [sIA_id], rfl, fun j j0 j1 => by omega, fun _ _ => rfl⟩
  · rintro i _ _ hi ⟨i0, F, rfl, rfl, hF, hG⟩ k
    rw [eX6_keepsShip_2]
    simp (disch := (first | (simp only [gK_sI, gK_sJ, gK_sR, gK_sIA, gK_sJA, gR_sI, gR_sJ, gR_sIA, Nat.reduceLeDiff, Nat.reduceEqDiff, Nat.reduceLT, Int.reduceLE, Int.reduceLT, Int.reduceEq, zWt_i, zWt_l, zWt_r, zWt_n, zH2_gK, zH2_mk, P, zMkk P, zMr0 P, zMk0 P, zMr29 P, zMk29 P] <;> omega) | omega | fail)) only [if_pos, if_neg, wI_id, zLc_lt, zLc_gt, zLc_eq, zLc_le, zLc_ge, Int.reduceEq, Int.reduceLE, Int.reduceLT, Int.reduceNeg, Int.reduceAdd, Int.reduceMul, Int.reduceSub, not_true_eq_false, not_false_eq_true, reduceIte, zPo_v, zPo_n, zPo_t, zKl_i, zKl_r, zKl_n, zKl_l, gK_sI, gK_sJ, gK_sR, gK_sIA, gK_sJA, gR_sI, gR_sJ, gJ_sI, gI_sJ, gI_sR, gJ_sR, gR_sIA, gJ_sIA, Nat.reduceLeDiff, Nat.reduceEqDiff, and_self, and_true, true_and, and_false, false_and, eX6_keepsShip_0, eX6_keepsShip_1, eX6_keepsShip_3, eX6_keepsShip_5, eX6_keepsShip_8, eX6_keepsShip_9, eX6_keepsShip_12, eX6_keepsShip_14, eX6_keepsShip_15, eX6_keepsShip_16, eX6_keepsShip_17, eX6_keepsShip_18, eX6_keepsShip_19, eX6_keepsShip_22, eX6_keepsShip_23, eX6_keepsShip_26, eX6_keepsShip_27, eX6_keepsShip_28, eX6_keepsShip_29, eX6_keepsShip_30, eX6_keepsShip_33, eX6_keepsShip_36, eX6_keepsShip_in, zH2_gK, zH2_gR, zH2_at, zH2_sI, zU_ne, P, zMkk P, zMr0 P, zMk0 P, zMr29 P, zMk29 P, cM_shipRow s0 (by omega : s < 100), s5]
    refine k _ _ ⟨by omega, _, rfl, rfl, fun j j0 j1 => ?_, fun z hz => ?_⟩
    · by_cases e : j = i
      · rw [e, zU_eq]
      · rw [zU_ne (by omega)]
        exact hF j j0 (by omega)
    · rw [zU_ne (by omega)]
      exact hG z hz
  · rintro _ _ ⟨-, F, rfl, rfl, hF, hG⟩
    rw [eX6_keepsShip_2]
    simp (disch := (first | (simp only [gK_sI, gK_sJ, gK_sR, gK_sIA, gK_sJA, gR_sI, gR_sJ, gR_sIA, Nat.reduceLeDiff, Nat.reduceEqDiff, Nat.reduceLT, Int.reduceLE, Int.reduceLT, Int.reduceEq, zWt_i, zWt_l, zWt_r, zWt_n, zH2_gK, zH2_mk, P, zMkk P, zMr0 P, zMk0 P, zMr29 P, zMk29 P] <;> omega) | omega | fail)) only [if_pos, if_neg, wI_id, zLc_lt, zLc_gt, zLc_eq, zLc_le, zLc_ge, Int.reduceEq, Int.reduceLE, Int.reduceLT, Int.reduceNeg, Int.reduceAdd, Int.reduceMul, Int.reduceSub, not_true_eq_false, not_false_eq_true, reduceIte, zPo_v, zPo_n, zPo_t, zKl_i, zKl_r, zKl_n, zKl_l, gK_sI, gK_sJ, gK_sR, gK_sIA, gK_sJA, gR_sI, gR_sJ, gJ_sI, gI_sJ, gI_sR, gJ_sR, gR_sIA, gJ_sIA, Nat.reduceLeDiff, Nat.reduceEqDiff, and_self, and_true, true_and, and_false, false_and, eX6_keepsShip_0, eX6_keepsShip_1, eX6_keepsShip_3, eX6_keepsShip_5, eX6_keepsShip_8, eX6_keepsShip_9, eX6_keepsShip_12, eX6_keepsShip_14, eX6_keepsShip_15, eX6_keepsShip_16, eX6_keepsShip_17, eX6_keepsShip_18, eX6_keepsShip_19, eX6_keepsShip_22, eX6_keepsShip_23, eX6_keepsShip_26, eX6_keepsShip_27, eX6_keepsShip_28, eX6_keepsShip_29, eX6_keepsShip_30, eX6_keepsShip_33, eX6_keepsShip_36, eX6_keepsShip_in, zH2_gK, zH2_gR, zH2_at, zH2_sI, zU_ne, P, zMkk P, zMr0 P, zMk0 P, zMr29 P, zMk29 P]
    exact hQ F hF hG
theorem kM_givesBack {s l : Int} (P : zMk h) (s0 : 0 ≤ s) (s4 : s < 4) (l0 : 0 ≤ l) (l3 : l ≤ 3) (hQ : ∀ X, (∀ i, 0 ≤ i → i < 15 → X (146 + 15 * s + i) = gI h 124 (15 * l + i)) → (∀ k, (k < 146 + 15 * s ∨ 161 + 15 * s ≤ k) → X k = a k) → Q (zRn (zH2 h X f))) : zCm mX6_givesBack d [zr (some 113), zi s, zi l] (zH2 h a f) Q := by
  simp (disch := (first | (simp only [gK_sI, gK_sJ, gK_sR, gK_sIA, gK_sJA, gR_sI, gR_sJ, gR_sIA, Nat.reduceLeDiff, Nat.reduceEqDiff, Nat.reduceLT, Int.reduceLE, Int.reduceLT, Int.reduceEq, zWt_i, zWt_l, zWt_r, zWt_n, zH2_gK, zH2_mk, P, zMkk P, zMr0 P, zMk0 P, zMr29 P, zMk29 P] <;> omega) | omega | fail)) only [if_pos, if_neg, wI_id, zLc_lt, zLc_gt, zLc_eq, zLc_le, zLc_ge, Int.reduceEq, Int.reduceLE, Int.reduceLT, Int.reduceNeg, Int.reduceAdd, Int.reduceMul, Int.reduceSub, not_true_eq_false, not_false_eq_true, reduceIte, zPo_v, zPo_n, zPo_t, zKl_i, zKl_r, zKl_n, zKl_l, gK_sI, gK_sJ, gK_sR, gK_sIA, gK_sJA, gR_sI, gR_sJ, gJ_sI, gI_sJ, gI_sR, gJ_sR, gR_sIA, gJ_sIA, Nat.reduceLeDiff, Nat.reduceEqDiff, and_self, and_true, true_and, and_false, false_and, eX6_givesBack_0, eX6_givesBack_1, eX6_givesBack_3, eX6_givesBack_5, eX6_givesBack_8, eX6_givesBack_9, eX6_givesBack_12, eX6_givesBack_13, eX6_givesBack_16, eX6_givesBack_17, eX6_givesBack_18, eX6_givesBack_19, eX6_givesBack_22, eX6_givesBack_24, eX6_givesBack_25, eX6_givesBack_26, eX6_givesBack_27, eX6_givesBack_28, eX6_givesBack_29, eX6_givesBack_30, eX6_givesBack_33, eX6_givesBack_36, eX6_givesBack_in, zH2_gK, zH2_gR, zH2_at, zH2_sI, zU_ne, P, zMkk P, zMr0 P, zMk0 P, zMr29 P, zMk29 P]
  refine zLoop 15 (fun i ls h' => 0 ≤ i ∧ ∃ X, h' = zH2 h X f ∧ ls = [some (zr (some 113)), some (zi s), some (zi l), some (zi i)] ∧ (∀ j, 0 ≤ j → j < i → X (146 + 15 * s + j) = gI h 124 (15 * l + j)) ∧ ∀ k, (k < 146 + 15 * s ∨ 161 + 15 * s ≤ k) → X k = a k) ?_ ?_ 0 _ _ (by omega) ⟨by omega, a, rfl, rfl, fun j j0 j1 => by omega, fun _ _ => rfl⟩
  · rintro i _ _ hi ⟨i0, X, rfl, rfl, hF, hG⟩ k
    rw [eX6_givesBack_2]
    simp (disch := (first | (simp only [gK_sI, gK_sJ, gK_sR, gK_sIA, gK_sJA, gR_sI, gR_sJ, gR_sIA, Nat.reduceLeDiff, Nat.reduceEqDiff, Nat.reduceLT, Int.reduceLE, Int.reduceLT, Int.reduceEq, zWt_i, zWt_l, zWt_r, zWt_n, zH2_gK, zH2_mk, P, zMkk P, zMr0 P, zMk0 P, zMr29 P, zMk29 P] <;> omega) | omega | fail)) only [if_pos, if_neg, wI_id, zLc_lt, zLc_gt, zLc_eq, zLc_le, zLc_ge, Int.reduceEq, Int.reduceLE, Int.reduceLT, Int.reduceNeg, Int.reduceAdd, Int.reduceMul, Int.reduceSub, not_true_eq_false, not_false_eq_true, reduceIte, zPo_v, zPo_n, zPo_t, zKl_i, zKl_r, zKl_n, zKl_l, gK_sI, gK_sJ, gK_sR, gK_sIA, gK_sJA, gR_sI, gR_sJ, gJ_sI, gI_sJ, gI_sR, gJ_sR, gR_sIA, gJ_sIA, Nat.reduceLeDiff, Nat.reduceEqDiff, and_self, and_true, true_and, and_false, false_and, eX6_givesBack_0, eX6_givesBack_1, eX6_givesBack_3, eX6_givesBack_5, eX6_givesBack_8, eX6_givesBack_9, eX6_givesBack_12, eX6_givesBack_13, eX6_givesBack_16, eX6_givesBack_17, eX6_givesBack_18, eX6_givesBack_19, eX6_givesBack_22, eX6_givesBack_24, eX6_givesBack_25, eX6_givesBack_26, eX6_givesBack_27, eX6_givesBack_28, eX6_givesBack_29, eX6_givesBack_30, eX6_givesBack_33, eX6_givesBack_36, eX6_givesBack_in, zH2_gK, zH2_gR, zH2_at, zH2_sI, zU_ne, P, zMkk P, zMr0 P, zMk0 P, zMr29 P, zMk29 P, cM_shipRow s0 (by omega : s < 100), zH2_ne]
    refine k _ _ ⟨by omega, _, rfl, rfl, fun j j0 j1 => ?_, fun z hz => ?_⟩
    · by_cases e : j = i
      · rw [e, zU_eq]
      · rw [zU_ne (by omega)]
        exact hF j j0 (by omega)
    · rw [zU_ne (by omega)]
      exact hG z hz
  · rintro _ _ ⟨-, X, rfl, rfl, hF, hG⟩
    rw [eX6_givesBack_2]
    simp (disch := (first | (simp only [gK_sI, gK_sJ, gK_sR, gK_sIA, gK_sJA, gR_sI, gR_sJ, gR_sIA, Nat.reduceLeDiff, Nat.reduceEqDiff, Nat.reduceLT, Int.reduceLE, Int.reduceLT, Int.reduceEq, zWt_i, zWt_l, zWt_r, zWt_n, zH2_gK, zH2_mk, P, zMkk P, zMr0 P, zMk0 P, zMr29 P, zMk29 P] <;> omega) | omega | fail)) only [if_pos, if_neg, wI_id, zLc_lt, zLc_gt, zLc_eq, zLc_le, zLc_ge, Int.reduceEq, Int.reduceLE, Int.reduceLT, Int.reduceNeg, Int.reduceAdd, Int.reduceMul, Int.reduceSub, not_true_eq_false, not_false_eq_true, reduceIte, zPo_v, zPo_n, zPo_t, zKl_i, zKl_r, zKl_n, zKl_l, gK_sI, gK_sJ, gK_sR, gK_sIA, gK_sJA, gR_sI, gR_sJ, gJ_sI, gI_sJ, gI_sR, gJ_sR, gR_sIA, gJ_sIA, Nat.reduceLeDiff, Nat.reduceEqDiff, and_self, and_true, true_and, and_false, false_and, eX6_givesBack_0, eX6_givesBack_1, eX6_givesBack_3, eX6_givesBack_5, eX6_givesBack_8, eX6_givesBack_9, eX6_givesBack_12, eX6_givesBack_13, eX6_givesBack_16, eX6_givesBack_17, eX6_givesBack_18, eX6_givesBack_19, eX6_givesBack_22, eX6_givesBack_24, eX6_givesBack_25, eX6_givesBack_26, eX6_givesBack_27, eX6_givesBack_28, eX6_givesBack_29, eX6_givesBack_30, eX6_givesBack_33, eX6_givesBack_36, eX6_givesBack_in, zH2_gK, zH2_gR, zH2_at, zH2_sI, zU_ne, P, zMkk P, zMr0 P, zMk0 P, zMr29 P, zMk29 P]
    exact hQ X hF hG
theorem kM_sellsAll {s : Int} (P : zMk h) (v : zIv a) (s0 : 0 ≤ s) (s1 : s < a 3) (hp : ¬ 0 < a (148 + 15 * s)) (hQ : Q (zRn (zH2 h (fSA a s (a 1).toNat) f))) : zCm mX6_sellsAll d [zr (some 113), zi s] (zH2 h a f) Q := by
  have bg := (zIgd v).2.1
  have b3 := (zIships v).2
  simp (disch := (first | (simp only [gK_sI, gK_sJ, gK_sR, gK_sIA, gK_sJA, gR_sI, gR_sJ, gR_sIA, Nat.reduceLeDiff, Nat.reduceEqDiff, Nat.reduceLT, Int.reduceLE, Int.reduceLT, Int.reduceEq, zWt_i, zWt_l, zWt_r, zWt_n, zH2_gK, zH2_mk, P, zMkk P, zMr0 P, zMk0 P] <;> omega) | omega | fail)) only [if_pos, if_neg, wI_id, zLc_lt, zLc_gt, zLc_eq, zLc_le, zLc_ge, Int.reduceEq, Int.reduceLE, Int.reduceLT, Int.reduceNeg, Int.reduceAdd, Int.reduceMul, Int.reduceSub, not_true_eq_false, not_false_eq_true, reduceIte, zPo_v, zPo_n, zPo_t, zKl_i, zKl_r, zKl_n, zKl_l, gK_sI, gK_sJ, gK_sR, gK_sIA, gK_sJA, gR_sI, gR_sJ, gJ_sI, gI_sJ, gI_sR, gJ_sR, gR_sIA, gJ_sIA, Nat.reduceLeDiff, Nat.reduceEqDiff, and_self, and_true, true_and, and_false, false_and, eX6_sellsAll_0, eX6_sellsAll_1, eX6_sellsAll_3, eX6_sellsAll_4, eX6_sellsAll_7, eX6_sellsAll_8, eX6_sellsAll_9, eX6_sellsAll_12, eX6_sellsAll_13, eX6_sellsAll_16, eX6_sellsAll_17, eX6_sellsAll_18, eX6_sellsAll_19, eX6_sellsAll_22, eX6_sellsAll_23, eX6_sellsAll_26, eX6_sellsAll_27, eX6_sellsAll_28, eX6_sellsAll_29, eX6_sellsAll_30, eX6_sellsAll_33, eX6_sellsAll_34, eX6_sellsAll_35, eX6_sellsAll_36, eX6_sellsAll_39, eX6_sellsAll_40, eX6_sellsAll_43, eX6_sellsAll_44, eX6_sellsAll_47, eX6_sellsAll_50, eX6_sellsAll_in, zH2_gK, zH2_gR, zH2_at, zH2_sI, zU_ne, P, zMkk P, zMr0 P, zMk0 P]
  refine zLoop (a 1) (fun i ls h' => 0 ≤ i ∧ h' = zH2 h (fSA a s i.toNat) f ∧ ls = [some (zr (some 113)), some (zi s), some (zi i)]) ?_ ?_ 0 _ _ bg.1 ⟨by omega, rfl, rfl⟩
  · rintro i _ _ hi ⟨i0, rfl, rfl⟩ k
    obtain ⟨h1, h2⟩ := fSA_f v s0 s1 hp i.toNat (by omega)
    have es : fSA a s (i + 1).toNat = fSel (fSA a s i.toNat) s i := by
      rw [show (i + 1).toNat = i.toNat + 1 by omega]
      show fSel (fSA a s i.toNat) s ((i.toNat : Nat) : Int) = _
      rw [Int.toNat_of_nonneg i0]
    generalize fSA a s i.toNat = b at h1 h2 es
    have e1 := h2 1 (by omega) (by omega)
    have e3 := h2 3 (by omega) (by omega)
    have e8 := h2 (148 + 15 * s) (by omega) (by omega)
    have e7 : 146 + 15 * s + 7 + i = 153 + 15 * s + i := by omega
    have ht := zIton h1 s i s0 (by omega) i0 (by omega)
    have fin : zEv mX6_sellsAll d 2 [some (zr (some 113)), some (zi s), some (zi (i + 1))] [] (zH2 h (fSel b s i) f) Q := k _ _ ⟨by omega, by rw [es], rfl⟩
    rw [eX6_sellsAll_2]
    by_cases c : 0 < b (153 + 15 * s + i)
    · simp (disch := (first | (simp only [gK_sI, gK_sJ, gK_sR, gK_sIA, gK_sJA, gR_sI, gR_sJ, gR_sIA, Nat.reduceLeDiff, Nat.reduceEqDiff, Nat.reduceLT, Int.reduceLE, Int.reduceLT, Int.reduceEq, zWt_i, zWt_l, zWt_r, zWt_n, zH2_gK, zH2_mk, P, zMkk P, zMr0 P, zMk0 P] <;> omega) | omega | fail)) only [if_pos, if_neg, wI_id, zLc_lt, zLc_gt, zLc_eq, zLc_le, zLc_ge, Int.reduceEq, Int.reduceLE, Int.reduceLT, Int.reduceNeg, Int.reduceAdd, Int.reduceMul, Int.reduceSub, not_true_eq_false, not_false_eq_true, reduceIte, zPo_v, zPo_n, zPo_t, zKl_i, zKl_r, zKl_n, zKl_l, gK_sI, gK_sJ, gK_sR, gK_sIA, gK_sJA, gR_sI, gR_sJ, gJ_sI, gI_sJ, gI_sR, gJ_sR, gR_sIA, gJ_sIA, Nat.reduceLeDiff, Nat.reduceEqDiff, and_self, and_true, true_and, and_false, false_and, eX6_sellsAll_0, eX6_sellsAll_1, eX6_sellsAll_3, eX6_sellsAll_4, eX6_sellsAll_7, eX6_sellsAll_8, eX6_sellsAll_9, eX6_sellsAll_12, eX6_sellsAll_13, eX6_sellsAll_16, eX6_sellsAll_17, eX6_sellsAll_18, eX6_sellsAll_19, eX6_sellsAll_22, eX6_sellsAll_23, eX6_sellsAll_26, eX6_sellsAll_27, eX6_sellsAll_28, eX6_sellsAll_29, eX6_sellsAll_30, eX6_sellsAll_33, eX6_sellsAll_34, eX6_sellsAll_35, eX6_sellsAll_36, eX6_sellsAll_39, eX6_sellsAll_40, eX6_sellsAll_43, eX6_sellsAll_44, eX6_sellsAll_47, eX6_sellsAll_50, eX6_sellsAll_in, zH2_gK, zH2_gR, zH2_at, zH2_sI, zU_ne, P, zMkk P, zMr0 P, zMk0 P, cM_loadRow s0 (by omega : s < 4) i0 (by omega : i < 8), e1, e7, c]
      refine kM_sells P h1 s0 (by omega) i0 (by omega) (by omega) (by omega) (fun ok => ?_) (fun nok => ?_)
      · rw [fSel_ok h1 s0 (by omega) (by omega) c ok] at fin
        simp (disch := (first | (simp only [gK_sI, gK_sJ, gK_sR, gK_sIA, gK_sJA, gR_sI, gR_sJ, gR_sIA, Nat.reduceLeDiff, Nat.reduceEqDiff, Nat.reduceLT, Int.reduceLE, Int.reduceLT, Int.reduceEq, zWt_i, zWt_l, zWt_r, zWt_n] <;> omega) | omega | fail)) only [if_pos, if_neg, wI_id, zLc_lt, zLc_gt, zLc_eq, zLc_le, zLc_ge, Int.reduceEq, Int.reduceLE, Int.reduceLT, Int.reduceNeg, Int.reduceAdd, Int.reduceMul, Int.reduceSub, not_true_eq_false, not_false_eq_true, reduceIte, zPo_v, zPo_n, zPo_t, zKl_i, zKl_r, zKl_n, zKl_l, gK_sI, gK_sJ, gK_sR, gK_sIA, gK_sJA, gR_sI, gR_sJ, gJ_sI, gI_sJ, gI_sR, gJ_sR, gR_sIA, gJ_sIA, Nat.reduceLeDiff, Nat.reduceEqDiff, and_self, and_true, true_and, and_false, false_and, eX6_sellsAll_0, eX6_sellsAll_1, eX6_sellsAll_3, eX6_sellsAll_4, eX6_sellsAll_7, eX6_sellsAll_8, eX6_sellsAll_9, eX6_sellsAll_12, eX6_sellsAll_13, eX6_sellsAll_16, eX6_sellsAll_17, eX6_sellsAll_18, eX6_sellsAll_19, eX6_sellsAll_22, eX6_sellsAll_23, eX6_sellsAll_26, eX6_sellsAll_27, eX6_sellsAll_28, eX6_sellsAll_29, eX6_sellsAll_30, eX6_sellsAll_33, eX6_sellsAll_34, eX6_sellsAll_35, eX6_sellsAll_36, eX6_sellsAll_39, eX6_sellsAll_40, eX6_sellsAll_43, eX6_sellsAll_44, eX6_sellsAll_47, eX6_sellsAll_50, eX6_sellsAll_in]
        exact fin
      · rw [fSel_no h1 s0 (by omega) (by omega) nok] at fin
        simp (disch := (first | (simp only [gK_sI, gK_sJ, gK_sR, gK_sIA, gK_sJA, gR_sI, gR_sJ, gR_sIA, Nat.reduceLeDiff, Nat.reduceEqDiff, Nat.reduceLT, Int.reduceLE, Int.reduceLT, Int.reduceEq, zWt_i, zWt_l, zWt_r, zWt_n] <;> omega) | omega | fail)) only [if_pos, if_neg, wI_id, zLc_lt, zLc_gt, zLc_eq, zLc_le, zLc_ge, Int.reduceEq, Int.reduceLE, Int.reduceLT, Int.reduceNeg, Int.reduceAdd, Int.reduceMul, Int.reduceSub, not_true_eq_false, not_false_eq_true, reduceIte, zPo_v, zPo_n, zPo_t, zKl_i, zKl_r, zKl_n, zKl_l, gK_sI, gK_sJ, gK_sR, gK_sIA, gK_sJA, gR_sI, gR_sJ, gJ_sI, gI_sJ, gI_sR, gJ_sR, gR_sIA, gJ_sIA, Nat.reduceLeDiff, Nat.reduceEqDiff, and_self, and_true, true_and, and_false, false_and, eX6_sellsAll_0, eX6_sellsAll_1, eX6_sellsAll_3, eX6_sellsAll_4, eX6_sellsAll_7, eX6_sellsAll_8, eX6_sellsAll_9, eX6_sellsAll_12, eX6_sellsAll_13, eX6_sellsAll_16, eX6_sellsAll_17, eX6_sellsAll_18, eX6_sellsAll_19, eX6_sellsAll_22, eX6_sellsAll_23, eX6_sellsAll_26, eX6_sellsAll_27, eX6_sellsAll_28, eX6_sellsAll_29, eX6_sellsAll_30, eX6_sellsAll_33, eX6_sellsAll_34, eX6_sellsAll_35, eX6_sellsAll_36, eX6_sellsAll_39, eX6_sellsAll_40, eX6_sellsAll_43, eX6_sellsAll_44, eX6_sellsAll_47, eX6_sellsAll_50, eX6_sellsAll_in]
        exact fin
    · have en : fSel b s i = b := if_neg (fun q => c q.1)
      rw [en] at fin
      simp (disch := (first | (simp only [gK_sI, gK_sJ, gK_sR, gK_sIA, gK_sJA, gR_sI, gR_sJ, gR_sIA, Nat.reduceLeDiff, Nat.reduceEqDiff, Nat.reduceLT, Int.reduceLE, Int.reduceLT, Int.reduceEq, zWt_i, zWt_l, zWt_r, zWt_n, zH2_gK, zH2_mk, P, zMkk P, zMr0 P, zMk0 P] <;> omega) | omega | fail)) only [if_pos, if_neg, wI_id, zLc_lt, zLc_gt, zLc_eq, zLc_le, zLc_ge, Int.reduceEq, Int.reduceLE, Int.reduceLT, Int.reduceNeg, Int.reduceAdd, Int.reduceMul, Int.reduceSub, not_true_eq_false, not_false_eq_true, reduceIte, zPo_v, zPo_n, zPo_t, zKl_i, zKl_r, zKl_n, zKl_l, gK_sI, gK_sJ, gK_sR, gK_sIA, gK_sJA, gR_sI, gR_sJ, gJ_sI, gI_sJ, gI_sR, gJ_sR, gR_sIA, gJ_sIA, Nat.reduceLeDiff, Nat.reduceEqDiff, and_self, and_true, true_and, and_false, false_and, eX6_sellsAll_0, eX6_sellsAll_1, eX6_sellsAll_3, eX6_sellsAll_4, eX6_sellsAll_7, eX6_sellsAll_8, eX6_sellsAll_9, eX6_sellsAll_12, eX6_sellsAll_13, eX6_sellsAll_16, eX6_sellsAll_17, eX6_sellsAll_18, eX6_sellsAll_19, eX6_sellsAll_22, eX6_sellsAll_23, eX6_sellsAll_26, eX6_sellsAll_27, eX6_sellsAll_28, eX6_sellsAll_29, eX6_sellsAll_30, eX6_sellsAll_33, eX6_sellsAll_34, eX6_sellsAll_35, eX6_sellsAll_36, eX6_sellsAll_39, eX6_sellsAll_40, eX6_sellsAll_43, eX6_sellsAll_44, eX6_sellsAll_47, eX6_sellsAll_50, eX6_sellsAll_in, zH2_gK, zH2_gR, zH2_at, zH2_sI, zU_ne, P, zMkk P, zMr0 P, zMk0 P, cM_loadRow s0 (by omega : s < 4) i0 (by omega : i < 8), e1, e7, c]
      exact fin
  · rintro _ _ ⟨-, rfl, rfl⟩
    obtain ⟨h1, h2⟩ := fSA_all v s0 s1 hp
    have e1 := h2 1 (by omega) (by omega)
    rw [eX6_sellsAll_2]
    simp (disch := (first | (simp only [gK_sI, gK_sJ, gK_sR, gK_sIA, gK_sJA, gR_sI, gR_sJ, gR_sIA, Nat.reduceLeDiff, Nat.reduceEqDiff, Nat.reduceLT, Int.reduceLE, Int.reduceLT, Int.reduceEq, zWt_i, zWt_l, zWt_r, zWt_n, zH2_gK, zH2_mk, P, zMkk P, zMr0 P, zMk0 P] <;> omega) | omega | fail)) only [if_pos, if_neg, wI_id, zLc_lt, zLc_gt, zLc_eq, zLc_le, zLc_ge, Int.reduceEq, Int.reduceLE, Int.reduceLT, Int.reduceNeg, Int.reduceAdd, Int.reduceMul, Int.reduceSub, not_true_eq_false, not_false_eq_true, reduceIte, zPo_v, zPo_n, zPo_t, zKl_i, zKl_r, zKl_n, zKl_l, gK_sI, gK_sJ, gK_sR, gK_sIA, gK_sJA, gR_sI, gR_sJ, gJ_sI, gI_sJ, gI_sR, gJ_sR, gR_sIA, gJ_sIA, Nat.reduceLeDiff, Nat.reduceEqDiff, and_self, and_true, true_and, and_false, false_and, eX6_sellsAll_0, eX6_sellsAll_1, eX6_sellsAll_3, eX6_sellsAll_4, eX6_sellsAll_7, eX6_sellsAll_8, eX6_sellsAll_9, eX6_sellsAll_12, eX6_sellsAll_13, eX6_sellsAll_16, eX6_sellsAll_17, eX6_sellsAll_18, eX6_sellsAll_19, eX6_sellsAll_22, eX6_sellsAll_23, eX6_sellsAll_26, eX6_sellsAll_27, eX6_sellsAll_28, eX6_sellsAll_29, eX6_sellsAll_30, eX6_sellsAll_33, eX6_sellsAll_34, eX6_sellsAll_35, eX6_sellsAll_36, eX6_sellsAll_39, eX6_sellsAll_40, eX6_sellsAll_43, eX6_sellsAll_44, eX6_sellsAll_47, eX6_sellsAll_50, eX6_sellsAll_in, zH2_gK, zH2_gR, zH2_at, zH2_sI, zU_ne, P, zMkk P, zMr0 P, zMk0 P, e1]
    exact hQ
theorem kM_goesLeg {s p g : Int} (P : zMk h) (v : zIv a) (s0 : 0 ≤ s) (s1 : s < a 3) (hp : ¬ 0 < a (148 + 15 * s)) (p0 : 0 ≤ p) (p6 : p < 6) (g0 : 0 ≤ g) (g8 : g ≤ 8) (hy : ∀ b, fLeg a s p g = some b → ∀ f1, Q (zRv (zi 1) (zH2 h b f1))) (hn : fLeg a s p g = none → ∀ x f1, zOs s a x → Q (zRv (zi 0) (zH2 h x f1))) : zCm mX6_goesLeg d [zr (some 113), zi s, zi p, zi g] (zH2 h a f) Q := by
  have bg := (zIgd v).2.1
  have b3 := (zIships v).2
  obtain ⟨-, -, r0, r2, r1, rn⟩ := zHp_at v s0 s1 hp
  have e0 : 146 + 15 * s + 0 = 146 + 15 * s := by omega
  have e4 : 146 + 15 * s + 4 = 150 + 15 * s := by omega
  have ew : ∀ x y : Int, 56 + 15 * x + 9 + y = 65 + 15 * x + y := fun x y => by omega
  have ep : ∀ x y : Int, 56 + 15 * x + 1 + y = 57 + 15 * x + y := fun x y => by omega
  have s4 : s < 4 := by omega
  by_cases c : p < a 2 ∧ a (146 + 15 * s) ≠ p ∧ a (65 + 15 * a (146 + 15 * s) + p) ≠ 0
  · obtain ⟨h1, h3, h2, h1', h8, ok, h6, hw⟩ := fLeg_ok v s0 s1 hp p0 c
    have hos := fSA_os v s0 s1 hp
    have eL : fLeg a s p g = fLg2 (fSA a s (a 1).toNat) s p g := if_pos c
    rw [eL] at hy hn
    obtain ⟨c1, c2, c3⟩ := c
    simp (disch := (first | (simp only [gK_sI, gK_sJ, gK_sR, gK_sIA, gK_sJA, gR_sI, gR_sJ, gR_sIA, Nat.reduceLeDiff, Nat.reduceEqDiff, Nat.reduceLT, Int.reduceLE, Int.reduceLT, Int.reduceEq, zWt_i, zWt_l, zWt_r, zWt_n, zH2_gK, zH2_mk, P, zMkk P] <;> omega) | omega | fail)) only [if_pos, if_neg, wI_id, zLc_lt, zLc_gt, zLc_eq, zLc_le, zLc_ge, Int.reduceEq, Int.reduceLE, Int.reduceLT, Int.reduceNeg, Int.reduceAdd, Int.reduceMul, Int.reduceSub, not_true_eq_false, not_false_eq_true, reduceIte, zPo_v, zPo_n, zPo_t, zKl_i, zKl_r, zKl_n, zKl_l, gK_sI, gK_sJ, gK_sR, gK_sIA, gK_sJA, gR_sI, gR_sJ, gJ_sI, gI_sJ, gI_sR, gJ_sR, gR_sIA, gJ_sIA, Nat.reduceLeDiff, Nat.reduceEqDiff, and_self, and_true, true_and, and_false, false_and, eX6_goesLeg_0, eX6_goesLeg_1, eX6_goesLeg_2, eX6_goesLeg_3, eX6_goesLeg_6, eX6_goesLeg_8, eX6_goesLeg_9, eX6_goesLeg_10, eX6_goesLeg_13, eX6_goesLeg_16, eX6_goesLeg_18, eX6_goesLeg_19, eX6_goesLeg_22, eX6_goesLeg_23, eX6_goesLeg_25, eX6_goesLeg_26, eX6_goesLeg_29, eX6_goesLeg_32, eX6_goesLeg_33, eX6_goesLeg_34, eX6_goesLeg_35, eX6_goesLeg_36, eX6_goesLeg_39, eX6_goesLeg_40, eX6_goesLeg_42, eX6_goesLeg_45, eX6_goesLeg_46, eX6_goesLeg_47, eX6_goesLeg_50, eX6_goesLeg_53, eX6_goesLeg_54, eX6_goesLeg_56, eX6_goesLeg_57, eX6_goesLeg_60, eX6_goesLeg_63, eX6_goesLeg_64, eX6_goesLeg_65, eX6_goesLeg_66, eX6_goesLeg_67, eX6_goesLeg_70, eX6_goesLeg_71, eX6_goesLeg_72, eX6_goesLeg_73, eX6_goesLeg_76, eX6_goesLeg_77, eX6_goesLeg_79, eX6_goesLeg_80, eX6_goesLeg_83, eX6_goesLeg_84, eX6_goesLeg_87, eX6_goesLeg_89, eX6_goesLeg_91, eX6_goesLeg_94, eX6_goesLeg_95, eX6_goesLeg_96, eX6_goesLeg_97, eX6_goesLeg_98, eX6_goesLeg_99, eX6_goesLeg_101, eX6_goesLeg_104, eX6_goesLeg_105, eX6_goesLeg_106, eX6_goesLeg_107, eX6_goesLeg_108, eX6_goesLeg_111, eX6_goesLeg_113, eX6_goesLeg_114, eX6_goesLeg_115, eX6_goesLeg_118, eX6_goesLeg_119, eX6_goesLeg_122, eX6_goesLeg_123, eX6_goesLeg_124, eX6_goesLeg_127, eX6_goesLeg_128, eX6_goesLeg_131, eX6_goesLeg_132, eX6_goesLeg_in, zH2_gK, zH2_gR, zH2_at, zH2_sI, zU_ne, P, zMkk P, kM_shipOf P s0 s4, e0, cM_isPort (zH2_mk.mpr P), kM_wayOf P r0 r1 p0 p6, ew, c1, c2, c3]
    refine kM_sellsAll P v s0 s1 hp ?_
    generalize fSA a s (a 1).toNat = b at h1 h3 h2 h1' h8 ok h6 hw hos hy hn
    have tail : ∀ X f1 o, zIv X → X 3 = a 3 → X 2 = a 2 → fSailOk X s p → (∀ f2, Q (zRv (zi 1) (zH2 h (fVs X s p) f2))) → zEv mX6_goesLeg d 105 [some (zr (some 113)), some (zi s), some (zi p), some (zi g), some (zi (a (146 + 15 * s))), o] [] (zH2 h X f1) Q := fun X f1 o vX x3 x2 okX hX => by
      simp (disch := (first | (simp only [gK_sI, gK_sJ, gK_sR, gK_sIA, gK_sJA, gR_sI, gR_sJ, gR_sIA, Nat.reduceLeDiff, Nat.reduceEqDiff, Nat.reduceLT, Int.reduceLE, Int.reduceLT, Int.reduceEq, zWt_i, zWt_l, zWt_r, zWt_n, zH2_gK, zH2_mk, P, zMkk P] <;> omega) | omega | fail)) only [if_pos, if_neg, wI_id, zLc_lt, zLc_gt, zLc_eq, zLc_le, zLc_ge, Int.reduceEq, Int.reduceLE, Int.reduceLT, Int.reduceNeg, Int.reduceAdd, Int.reduceMul, Int.reduceSub, not_true_eq_false, not_false_eq_true, reduceIte, zPo_v, zPo_n, zPo_t, zKl_i, zKl_r, zKl_n, zKl_l, gK_sI, gK_sJ, gK_sR, gK_sIA, gK_sJA, gR_sI, gR_sJ, gJ_sI, gI_sJ, gI_sR, gJ_sR, gR_sIA, gJ_sIA, Nat.reduceLeDiff, Nat.reduceEqDiff, and_self, and_true, true_and, and_false, false_and, eX6_goesLeg_0, eX6_goesLeg_1, eX6_goesLeg_2, eX6_goesLeg_3, eX6_goesLeg_6, eX6_goesLeg_8, eX6_goesLeg_9, eX6_goesLeg_10, eX6_goesLeg_13, eX6_goesLeg_16, eX6_goesLeg_18, eX6_goesLeg_19, eX6_goesLeg_22, eX6_goesLeg_23, eX6_goesLeg_25, eX6_goesLeg_26, eX6_goesLeg_29, eX6_goesLeg_32, eX6_goesLeg_33, eX6_goesLeg_34, eX6_goesLeg_35, eX6_goesLeg_36, eX6_goesLeg_39, eX6_goesLeg_40, eX6_goesLeg_42, eX6_goesLeg_45, eX6_goesLeg_46, eX6_goesLeg_47, eX6_goesLeg_50, eX6_goesLeg_53, eX6_goesLeg_54, eX6_goesLeg_56, eX6_goesLeg_57, eX6_goesLeg_60, eX6_goesLeg_63, eX6_goesLeg_64, eX6_goesLeg_65, eX6_goesLeg_66, eX6_goesLeg_67, eX6_goesLeg_70, eX6_goesLeg_71, eX6_goesLeg_72, eX6_goesLeg_73, eX6_goesLeg_76, eX6_goesLeg_77, eX6_goesLeg_79, eX6_goesLeg_80, eX6_goesLeg_83, eX6_goesLeg_84, eX6_goesLeg_87, eX6_goesLeg_89, eX6_goesLeg_91, eX6_goesLeg_94, eX6_goesLeg_95, eX6_goesLeg_96, eX6_goesLeg_97, eX6_goesLeg_98, eX6_goesLeg_99, eX6_goesLeg_101, eX6_goesLeg_104, eX6_goesLeg_105, eX6_goesLeg_106, eX6_goesLeg_107, eX6_goesLeg_108, eX6_goesLeg_111, eX6_goesLeg_113, eX6_goesLeg_114, eX6_goesLeg_115, eX6_goesLeg_118, eX6_goesLeg_119, eX6_goesLeg_122, eX6_goesLeg_123, eX6_goesLeg_124, eX6_goesLeg_127, eX6_goesLeg_128, eX6_goesLeg_131, eX6_goesLeg_132, eX6_goesLeg_in]
      refine kM_sails P vX s0 (by omega) p0 p6 (fun _ => ?_) (fun q => absurd okX q)
      obtain ⟨y1, y2, y3, y4, y5⟩ := fSail_f vX s0 (by omega) p0 (by omega) okX
      have z3 := y3 3 (by omega)
      simp (disch := (first | (simp only [gK_sI, gK_sJ, gK_sR, gK_sIA, gK_sJA, gR_sI, gR_sJ, gR_sIA, Nat.reduceLeDiff, Nat.reduceEqDiff, Nat.reduceLT, Int.reduceLE, Int.reduceLT, Int.reduceEq, zWt_i, zWt_l, zWt_r, zWt_n] <;> omega) | omega | fail)) only [if_pos, if_neg, wI_id, zLc_lt, zLc_gt, zLc_eq, zLc_le, zLc_ge, Int.reduceEq, Int.reduceLE, Int.reduceLT, Int.reduceNeg, Int.reduceAdd, Int.reduceMul, Int.reduceSub, not_true_eq_false, not_false_eq_true, reduceIte, zPo_v, zPo_n, zPo_t, zKl_i, zKl_r, zKl_n, zKl_l, gK_sI, gK_sJ, gK_sR, gK_sIA, gK_sJA, gR_sI, gR_sJ, gJ_sI, gI_sJ, gI_sR, gJ_sR, gR_sIA, gJ_sIA, Nat.reduceLeDiff, Nat.reduceEqDiff, and_self, and_true, true_and, and_false, false_and, eX6_goesLeg_0, eX6_goesLeg_1, eX6_goesLeg_2, eX6_goesLeg_3, eX6_goesLeg_6, eX6_goesLeg_8, eX6_goesLeg_9, eX6_goesLeg_10, eX6_goesLeg_13, eX6_goesLeg_16, eX6_goesLeg_18, eX6_goesLeg_19, eX6_goesLeg_22, eX6_goesLeg_23, eX6_goesLeg_25, eX6_goesLeg_26, eX6_goesLeg_29, eX6_goesLeg_32, eX6_goesLeg_33, eX6_goesLeg_34, eX6_goesLeg_35, eX6_goesLeg_36, eX6_goesLeg_39, eX6_goesLeg_40, eX6_goesLeg_42, eX6_goesLeg_45, eX6_goesLeg_46, eX6_goesLeg_47, eX6_goesLeg_50, eX6_goesLeg_53, eX6_goesLeg_54, eX6_goesLeg_56, eX6_goesLeg_57, eX6_goesLeg_60, eX6_goesLeg_63, eX6_goesLeg_64, eX6_goesLeg_65, eX6_goesLeg_66, eX6_goesLeg_67, eX6_goesLeg_70, eX6_goesLeg_71, eX6_goesLeg_72, eX6_goesLeg_73, eX6_goesLeg_76, eX6_goesLeg_77, eX6_goesLeg_79, eX6_goesLeg_80, eX6_goesLeg_83, eX6_goesLeg_84, eX6_goesLeg_87, eX6_goesLeg_89, eX6_goesLeg_91, eX6_goesLeg_94, eX6_goesLeg_95, eX6_goesLeg_96, eX6_goesLeg_97, eX6_goesLeg_98, eX6_goesLeg_99, eX6_goesLeg_101, eX6_goesLeg_104, eX6_goesLeg_105, eX6_goesLeg_106, eX6_goesLeg_107, eX6_goesLeg_108, eX6_goesLeg_111, eX6_goesLeg_113, eX6_goesLeg_114, eX6_goesLeg_115, eX6_goesLeg_118, eX6_goesLeg_119, eX6_goesLeg_122, eX6_goesLeg_123, eX6_goesLeg_124, eX6_goesLeg_127, eX6_goesLeg_128, eX6_goesLeg_131, eX6_goesLeg_132, eX6_goesLeg_in]
      unfold fVs at hX
      generalize hD : X (65 + 15 * X (146 + 15 * s) + p) = D at y2 y4 y5 hX
      generalize hS : fSail X s p = S at y1 y2 y3 z3 hX
      refine zLoop D (fun i ls h' => 0 ≤ i ∧ ∃ f2, h' = zH2 h (fGoN S s i.toNat) f2 ∧ ls = [some (zr (some 113)), some (zi s), some (zi p), some (zi g), some (zi (a (146 + 15 * s))), o]) ?_ ?_ 0 _ _ y4 ⟨by omega, f1, rfl, rfl⟩
      · rintro i _ _ hi ⟨i0, f2, rfl, rfl⟩ k
        obtain ⟨g1, g2, g3⟩ := fGoN_f y1 s0 (by omega) i.toNat (by omega)
        have w3 := g3 3 (by omega)
        have hs := ((zIsea g1 s s0 (by omega)).2.1 (by omega)).1
        have es : fGoN S s (i + 1).toNat = (fGo (fGoN S s i.toNat) s).1 := by
          rw [show (i + 1).toNat = i.toNat + 1 by omega]
          rfl
        rw [eX6_goesLeg_112]
        simp (disch := (first | (simp only [gK_sI, gK_sJ, gK_sR, gK_sIA, gK_sJA, gR_sI, gR_sJ, gR_sIA, Nat.reduceLeDiff, Nat.reduceEqDiff, Nat.reduceLT, Int.reduceLE, Int.reduceLT, Int.reduceEq, zWt_i, zWt_l, zWt_r, zWt_n, zH2_gK, zH2_mk, P, zMkk P] <;> omega) | omega | fail)) only [if_pos, if_neg, wI_id, zLc_lt, zLc_gt, zLc_eq, zLc_le, zLc_ge, Int.reduceEq, Int.reduceLE, Int.reduceLT, Int.reduceNeg, Int.reduceAdd, Int.reduceMul, Int.reduceSub, not_true_eq_false, not_false_eq_true, reduceIte, zPo_v, zPo_n, zPo_t, zKl_i, zKl_r, zKl_n, zKl_l, gK_sI, gK_sJ, gK_sR, gK_sIA, gK_sJA, gR_sI, gR_sJ, gJ_sI, gI_sJ, gI_sR, gJ_sR, gR_sIA, gJ_sIA, Nat.reduceLeDiff, Nat.reduceEqDiff, and_self, and_true, true_and, and_false, false_and, eX6_goesLeg_0, eX6_goesLeg_1, eX6_goesLeg_2, eX6_goesLeg_3, eX6_goesLeg_6, eX6_goesLeg_8, eX6_goesLeg_9, eX6_goesLeg_10, eX6_goesLeg_13, eX6_goesLeg_16, eX6_goesLeg_18, eX6_goesLeg_19, eX6_goesLeg_22, eX6_goesLeg_23, eX6_goesLeg_25, eX6_goesLeg_26, eX6_goesLeg_29, eX6_goesLeg_32, eX6_goesLeg_33, eX6_goesLeg_34, eX6_goesLeg_35, eX6_goesLeg_36, eX6_goesLeg_39, eX6_goesLeg_40, eX6_goesLeg_42, eX6_goesLeg_45, eX6_goesLeg_46, eX6_goesLeg_47, eX6_goesLeg_50, eX6_goesLeg_53, eX6_goesLeg_54, eX6_goesLeg_56, eX6_goesLeg_57, eX6_goesLeg_60, eX6_goesLeg_63, eX6_goesLeg_64, eX6_goesLeg_65, eX6_goesLeg_66, eX6_goesLeg_67, eX6_goesLeg_70, eX6_goesLeg_71, eX6_goesLeg_72, eX6_goesLeg_73, eX6_goesLeg_76, eX6_goesLeg_77, eX6_goesLeg_79, eX6_goesLeg_80, eX6_goesLeg_83, eX6_goesLeg_84, eX6_goesLeg_87, eX6_goesLeg_89, eX6_goesLeg_91, eX6_goesLeg_94, eX6_goesLeg_95, eX6_goesLeg_96, eX6_goesLeg_97, eX6_goesLeg_98, eX6_goesLeg_99, eX6_goesLeg_101, eX6_goesLeg_104, eX6_goesLeg_105, eX6_goesLeg_106, eX6_goesLeg_107, eX6_goesLeg_108, eX6_goesLeg_111, eX6_goesLeg_113, eX6_goesLeg_114, eX6_goesLeg_115, eX6_goesLeg_118, eX6_goesLeg_119, eX6_goesLeg_122, eX6_goesLeg_123, eX6_goesLeg_124, eX6_goesLeg_127, eX6_goesLeg_128, eX6_goesLeg_131, eX6_goesLeg_132, eX6_goesLeg_in, kM_shipOf P s0 s4, e0, hs]
        refine kM_passes P g1 s0 (by omega) (fun f3 => ?_)
        simp (disch := (first | (simp only [gK_sI, gK_sJ, gK_sR, gK_sIA, gK_sJA, gR_sI, gR_sJ, gR_sIA, Nat.reduceLeDiff, Nat.reduceEqDiff, Nat.reduceLT, Int.reduceLE, Int.reduceLT, Int.reduceEq, zWt_i, zWt_l, zWt_r, zWt_n] <;> omega) | omega | fail)) only [if_pos, if_neg, wI_id, zLc_lt, zLc_gt, zLc_eq, zLc_le, zLc_ge, Int.reduceEq, Int.reduceLE, Int.reduceLT, Int.reduceNeg, Int.reduceAdd, Int.reduceMul, Int.reduceSub, not_true_eq_false, not_false_eq_true, reduceIte, zPo_v, zPo_n, zPo_t, zKl_i, zKl_r, zKl_n, zKl_l, gK_sI, gK_sJ, gK_sR, gK_sIA, gK_sJA, gR_sI, gR_sJ, gJ_sI, gI_sJ, gI_sR, gJ_sR, gR_sIA, gJ_sIA, Nat.reduceLeDiff, Nat.reduceEqDiff, and_self, and_true, true_and, and_false, false_and, eX6_goesLeg_0, eX6_goesLeg_1, eX6_goesLeg_2, eX6_goesLeg_3, eX6_goesLeg_6, eX6_goesLeg_8, eX6_goesLeg_9, eX6_goesLeg_10, eX6_goesLeg_13, eX6_goesLeg_16, eX6_goesLeg_18, eX6_goesLeg_19, eX6_goesLeg_22, eX6_goesLeg_23, eX6_goesLeg_25, eX6_goesLeg_26, eX6_goesLeg_29, eX6_goesLeg_32, eX6_goesLeg_33, eX6_goesLeg_34, eX6_goesLeg_35, eX6_goesLeg_36, eX6_goesLeg_39, eX6_goesLeg_40, eX6_goesLeg_42, eX6_goesLeg_45, eX6_goesLeg_46, eX6_goesLeg_47, eX6_goesLeg_50, eX6_goesLeg_53, eX6_goesLeg_54, eX6_goesLeg_56, eX6_goesLeg_57, eX6_goesLeg_60, eX6_goesLeg_63, eX6_goesLeg_64, eX6_goesLeg_65, eX6_goesLeg_66, eX6_goesLeg_67, eX6_goesLeg_70, eX6_goesLeg_71, eX6_goesLeg_72, eX6_goesLeg_73, eX6_goesLeg_76, eX6_goesLeg_77, eX6_goesLeg_79, eX6_goesLeg_80, eX6_goesLeg_83, eX6_goesLeg_84, eX6_goesLeg_87, eX6_goesLeg_89, eX6_goesLeg_91, eX6_goesLeg_94, eX6_goesLeg_95, eX6_goesLeg_96, eX6_goesLeg_97, eX6_goesLeg_98, eX6_goesLeg_99, eX6_goesLeg_101, eX6_goesLeg_104, eX6_goesLeg_105, eX6_goesLeg_106, eX6_goesLeg_107, eX6_goesLeg_108, eX6_goesLeg_111, eX6_goesLeg_113, eX6_goesLeg_114, eX6_goesLeg_115, eX6_goesLeg_118, eX6_goesLeg_119, eX6_goesLeg_122, eX6_goesLeg_123, eX6_goesLeg_124, eX6_goesLeg_127, eX6_goesLeg_128, eX6_goesLeg_131, eX6_goesLeg_132, eX6_goesLeg_in]
        exact k _ _ ⟨by omega, f3, by rw [es], rfl⟩
      · rintro _ _ ⟨-, f2, rfl, rfl⟩
        obtain ⟨g1, g2, g3⟩ := fGoN_f y1 s0 (by omega) D.toNat (by omega)
        have w3 := g3 3 (by omega)
        have hs := (zHp_at g1 s0 (by omega) (by omega)).2.2.2.2.2
        rw [eX6_goesLeg_112]
        simp (disch := (first | (simp only [gK_sI, gK_sJ, gK_sR, gK_sIA, gK_sJA, gR_sI, gR_sJ, gR_sIA, Nat.reduceLeDiff, Nat.reduceEqDiff, Nat.reduceLT, Int.reduceLE, Int.reduceLT, Int.reduceEq, zWt_i, zWt_l, zWt_r, zWt_n, zH2_gK, zH2_mk, P, zMkk P] <;> omega) | omega | fail)) only [if_pos, if_neg, wI_id, zLc_lt, zLc_gt, zLc_eq, zLc_le, zLc_ge, Int.reduceEq, Int.reduceLE, Int.reduceLT, Int.reduceNeg, Int.reduceAdd, Int.reduceMul, Int.reduceSub, not_true_eq_false, not_false_eq_true, reduceIte, zPo_v, zPo_n, zPo_t, zKl_i, zKl_r, zKl_n, zKl_l, gK_sI, gK_sJ, gK_sR, gK_sIA, gK_sJA, gR_sI, gR_sJ, gJ_sI, gI_sJ, gI_sR, gJ_sR, gR_sIA, gJ_sIA, Nat.reduceLeDiff, Nat.reduceEqDiff, and_self, and_true, true_and, and_false, false_and, eX6_goesLeg_0, eX6_goesLeg_1, eX6_goesLeg_2, eX6_goesLeg_3, eX6_goesLeg_6, eX6_goesLeg_8, eX6_goesLeg_9, eX6_goesLeg_10, eX6_goesLeg_13, eX6_goesLeg_16, eX6_goesLeg_18, eX6_goesLeg_19, eX6_goesLeg_22, eX6_goesLeg_23, eX6_goesLeg_25, eX6_goesLeg_26, eX6_goesLeg_29, eX6_goesLeg_32, eX6_goesLeg_33, eX6_goesLeg_34, eX6_goesLeg_35, eX6_goesLeg_36, eX6_goesLeg_39, eX6_goesLeg_40, eX6_goesLeg_42, eX6_goesLeg_45, eX6_goesLeg_46, eX6_goesLeg_47, eX6_goesLeg_50, eX6_goesLeg_53, eX6_goesLeg_54, eX6_goesLeg_56, eX6_goesLeg_57, eX6_goesLeg_60, eX6_goesLeg_63, eX6_goesLeg_64, eX6_goesLeg_65, eX6_goesLeg_66, eX6_goesLeg_67, eX6_goesLeg_70, eX6_goesLeg_71, eX6_goesLeg_72, eX6_goesLeg_73, eX6_goesLeg_76, eX6_goesLeg_77, eX6_goesLeg_79, eX6_goesLeg_80, eX6_goesLeg_83, eX6_goesLeg_84, eX6_goesLeg_87, eX6_goesLeg_89, eX6_goesLeg_91, eX6_goesLeg_94, eX6_goesLeg_95, eX6_goesLeg_96, eX6_goesLeg_97, eX6_goesLeg_98, eX6_goesLeg_99, eX6_goesLeg_101, eX6_goesLeg_104, eX6_goesLeg_105, eX6_goesLeg_106, eX6_goesLeg_107, eX6_goesLeg_108, eX6_goesLeg_111, eX6_goesLeg_113, eX6_goesLeg_114, eX6_goesLeg_115, eX6_goesLeg_118, eX6_goesLeg_119, eX6_goesLeg_122, eX6_goesLeg_123, eX6_goesLeg_124, eX6_goesLeg_127, eX6_goesLeg_128, eX6_goesLeg_131, eX6_goesLeg_132, eX6_goesLeg_in, kM_shipOf P s0 s4, e0, hs]
        exact hX f2
    unfold fLg2 at hy hn
    by_cases c4 : g = 8
    · rw [if_pos c4] at hy
      have c4' : ¬ g < 8 := by omega
      simp (disch := (first | (simp only [gK_sI, gK_sJ, gK_sR, gK_sIA, gK_sJA, gR_sI, gR_sJ, gR_sIA, Nat.reduceLeDiff, Nat.reduceEqDiff, Nat.reduceLT, Int.reduceLE, Int.reduceLT, Int.reduceEq, zWt_i, zWt_l, zWt_r, zWt_n, zH2_gK, zH2_mk, P, zMkk P] <;> omega) | omega | fail)) only [if_pos, if_neg, wI_id, zLc_lt, zLc_gt, zLc_eq, zLc_le, zLc_ge, Int.reduceEq, Int.reduceLE, Int.reduceLT, Int.reduceNeg, Int.reduceAdd, Int.reduceMul, Int.reduceSub, not_true_eq_false, not_false_eq_true, reduceIte, zPo_v, zPo_n, zPo_t, zKl_i, zKl_r, zKl_n, zKl_l, gK_sI, gK_sJ, gK_sR, gK_sIA, gK_sJA, gR_sI, gR_sJ, gJ_sI, gI_sJ, gI_sR, gJ_sR, gR_sIA, gJ_sIA, Nat.reduceLeDiff, Nat.reduceEqDiff, and_self, and_true, true_and, and_false, false_and, eX6_goesLeg_0, eX6_goesLeg_1, eX6_goesLeg_2, eX6_goesLeg_3, eX6_goesLeg_6, eX6_goesLeg_8, eX6_goesLeg_9, eX6_goesLeg_10, eX6_goesLeg_13, eX6_goesLeg_16, eX6_goesLeg_18, eX6_goesLeg_19, eX6_goesLeg_22, eX6_goesLeg_23, eX6_goesLeg_25, eX6_goesLeg_26, eX6_goesLeg_29, eX6_goesLeg_32, eX6_goesLeg_33, eX6_goesLeg_34, eX6_goesLeg_35, eX6_goesLeg_36, eX6_goesLeg_39, eX6_goesLeg_40, eX6_goesLeg_42, eX6_goesLeg_45, eX6_goesLeg_46, eX6_goesLeg_47, eX6_goesLeg_50, eX6_goesLeg_53, eX6_goesLeg_54, eX6_goesLeg_56, eX6_goesLeg_57, eX6_goesLeg_60, eX6_goesLeg_63, eX6_goesLeg_64, eX6_goesLeg_65, eX6_goesLeg_66, eX6_goesLeg_67, eX6_goesLeg_70, eX6_goesLeg_71, eX6_goesLeg_72, eX6_goesLeg_73, eX6_goesLeg_76, eX6_goesLeg_77, eX6_goesLeg_79, eX6_goesLeg_80, eX6_goesLeg_83, eX6_goesLeg_84, eX6_goesLeg_87, eX6_goesLeg_89, eX6_goesLeg_91, eX6_goesLeg_94, eX6_goesLeg_95, eX6_goesLeg_96, eX6_goesLeg_97, eX6_goesLeg_98, eX6_goesLeg_99, eX6_goesLeg_101, eX6_goesLeg_104, eX6_goesLeg_106, eX6_goesLeg_107, eX6_goesLeg_108, eX6_goesLeg_111, eX6_goesLeg_113, eX6_goesLeg_114, eX6_goesLeg_115, eX6_goesLeg_118, eX6_goesLeg_119, eX6_goesLeg_122, eX6_goesLeg_123, eX6_goesLeg_124, eX6_goesLeg_127, eX6_goesLeg_128, eX6_goesLeg_131, eX6_goesLeg_132, eX6_goesLeg_in, c4']
      exact tail b f _ h1 h3 h2 ok (hy _ rfl)
    · have c4' : g < 8 := by omega
      rw [if_neg c4] at hy hn
      by_cases c5 : g < a 1
      · have hpr : b (57 + 15 * a (146 + 15 * s) + g) = fPr b s g := by
          unfold fPr
          rw [h6]
        by_cases c6 : fPr b s g = 0
        · rw [if_neg (fun q => q.2.1 c6)] at hn
          simp (disch := (first | (simp only [gK_sI, gK_sJ, gK_sR, gK_sIA, gK_sJA, gR_sI, gR_sJ, gR_sIA, Nat.reduceLeDiff, Nat.reduceEqDiff, Nat.reduceLT, Int.reduceLE, Int.reduceLT, Int.reduceEq, zWt_i, zWt_l, zWt_r, zWt_n, zH2_gK, zH2_mk, P, zMkk P] <;> omega) | omega | fail)) only [if_pos, if_neg, wI_id, zLc_lt, zLc_gt, zLc_eq, zLc_le, zLc_ge, Int.reduceEq, Int.reduceLE, Int.reduceLT, Int.reduceNeg, Int.reduceAdd, Int.reduceMul, Int.reduceSub, not_true_eq_false, not_false_eq_true, reduceIte, zPo_v, zPo_n, zPo_t, zKl_i, zKl_r, zKl_n, zKl_l, gK_sI, gK_sJ, gK_sR, gK_sIA, gK_sJA, gR_sI, gR_sJ, gJ_sI, gI_sJ, gI_sR, gJ_sR, gR_sIA, gJ_sIA, Nat.reduceLeDiff, Nat.reduceEqDiff, and_self, and_true, true_and, and_false, false_and, eX6_goesLeg_0, eX6_goesLeg_1, eX6_goesLeg_2, eX6_goesLeg_3, eX6_goesLeg_6, eX6_goesLeg_8, eX6_goesLeg_9, eX6_goesLeg_10, eX6_goesLeg_13, eX6_goesLeg_16, eX6_goesLeg_18, eX6_goesLeg_19, eX6_goesLeg_22, eX6_goesLeg_23, eX6_goesLeg_25, eX6_goesLeg_26, eX6_goesLeg_29, eX6_goesLeg_32, eX6_goesLeg_33, eX6_goesLeg_34, eX6_goesLeg_35, eX6_goesLeg_36, eX6_goesLeg_39, eX6_goesLeg_40, eX6_goesLeg_42, eX6_goesLeg_45, eX6_goesLeg_46, eX6_goesLeg_47, eX6_goesLeg_50, eX6_goesLeg_53, eX6_goesLeg_54, eX6_goesLeg_56, eX6_goesLeg_57, eX6_goesLeg_60, eX6_goesLeg_63, eX6_goesLeg_64, eX6_goesLeg_65, eX6_goesLeg_66, eX6_goesLeg_67, eX6_goesLeg_70, eX6_goesLeg_71, eX6_goesLeg_72, eX6_goesLeg_73, eX6_goesLeg_76, eX6_goesLeg_77, eX6_goesLeg_79, eX6_goesLeg_80, eX6_goesLeg_83, eX6_goesLeg_84, eX6_goesLeg_87, eX6_goesLeg_89, eX6_goesLeg_91, eX6_goesLeg_94, eX6_goesLeg_95, eX6_goesLeg_96, eX6_goesLeg_97, eX6_goesLeg_98, eX6_goesLeg_99, eX6_goesLeg_101, eX6_goesLeg_104, eX6_goesLeg_105, eX6_goesLeg_106, eX6_goesLeg_107, eX6_goesLeg_108, eX6_goesLeg_111, eX6_goesLeg_113, eX6_goesLeg_114, eX6_goesLeg_115, eX6_goesLeg_118, eX6_goesLeg_119, eX6_goesLeg_122, eX6_goesLeg_123, eX6_goesLeg_124, eX6_goesLeg_127, eX6_goesLeg_128, eX6_goesLeg_131, eX6_goesLeg_132, eX6_goesLeg_in, zH2_gK, zH2_gR, zH2_at, zH2_sI, zU_ne, P, zMkk P, cM_isGood (zH2_mk.mpr P), h1', kM_priceOf P r0 r1 g0 c4', ep, hpr, c4', c5, c6]
          exact hn rfl _ _ hos
        · obtain ⟨n0, n1, n2, n3, n4, n5⟩ := fBuy_ok h1 s0 (by omega) h8 g0 c4' c6
          have hc := zIcoin h1 s s0 (by omega)
          have ed : zDiv (b (150 + 15 * s)) (fPr b s g) = b (150 + 15 * s) / fPr b s g := zDiv_id hc.1 (by omega) n3 (by omega)
          have em : (if b (150 + 15 * s) / fPr b s g < b (149 + 15 * s) - fTons (fLd b s) then b (150 + 15 * s) / fPr b s g else b (149 + 15 * s) - fTons (fLd b s)) = fNb b s g := by
            unfold fNb
            rw [Int.min_def]
            split <;> split <;> omega
          by_cases c7 : fNb b s g = 0
          · rw [if_neg (fun q => q.2.2 c7)] at hn
            simp (disch := (first | (simp only [gK_sI, gK_sJ, gK_sR, gK_sIA, gK_sJA, gR_sI, gR_sJ, gR_sIA, Nat.reduceLeDiff, Nat.reduceEqDiff, Nat.reduceLT, Int.reduceLE, Int.reduceLT, Int.reduceEq, zWt_i, zWt_l, zWt_r, zWt_n, zH2_gK, zH2_mk, P, zMkk P] <;> omega) | omega | fail)) only [if_pos, if_neg, wI_id, zLc_lt, zLc_gt, zLc_eq, zLc_le, zLc_ge, Int.reduceEq, Int.reduceLE, Int.reduceLT, Int.reduceNeg, Int.reduceAdd, Int.reduceMul, Int.reduceSub, not_true_eq_false, not_false_eq_true, reduceIte, zPo_v, zPo_n, zPo_t, zKl_i, zKl_r, zKl_n, zKl_l, gK_sI, gK_sJ, gK_sR, gK_sIA, gK_sJA, gR_sI, gR_sJ, gJ_sI, gI_sJ, gI_sR, gJ_sR, gR_sIA, gJ_sIA, Nat.reduceLeDiff, Nat.reduceEqDiff, and_self, and_true, true_and, and_false, false_and, eX6_goesLeg_0, eX6_goesLeg_1, eX6_goesLeg_2, eX6_goesLeg_3, eX6_goesLeg_6, eX6_goesLeg_8, eX6_goesLeg_9, eX6_goesLeg_10, eX6_goesLeg_13, eX6_goesLeg_16, eX6_goesLeg_18, eX6_goesLeg_19, eX6_goesLeg_22, eX6_goesLeg_23, eX6_goesLeg_25, eX6_goesLeg_26, eX6_goesLeg_29, eX6_goesLeg_32, eX6_goesLeg_33, eX6_goesLeg_34, eX6_goesLeg_35, eX6_goesLeg_36, eX6_goesLeg_39, eX6_goesLeg_40, eX6_goesLeg_42, eX6_goesLeg_45, eX6_goesLeg_46, eX6_goesLeg_47, eX6_goesLeg_50, eX6_goesLeg_53, eX6_goesLeg_54, eX6_goesLeg_56, eX6_goesLeg_57, eX6_goesLeg_60, eX6_goesLeg_63, eX6_goesLeg_64, eX6_goesLeg_65, eX6_goesLeg_66, eX6_goesLeg_67, eX6_goesLeg_70, eX6_goesLeg_71, eX6_goesLeg_72, eX6_goesLeg_73, eX6_goesLeg_76, eX6_goesLeg_77, eX6_goesLeg_79, eX6_goesLeg_80, eX6_goesLeg_83, eX6_goesLeg_84, eX6_goesLeg_87, eX6_goesLeg_89, eX6_goesLeg_91, eX6_goesLeg_94, eX6_goesLeg_95, eX6_goesLeg_96, eX6_goesLeg_97, eX6_goesLeg_98, eX6_goesLeg_99, eX6_goesLeg_101, eX6_goesLeg_104, eX6_goesLeg_105, eX6_goesLeg_106, eX6_goesLeg_107, eX6_goesLeg_108, eX6_goesLeg_111, eX6_goesLeg_113, eX6_goesLeg_114, eX6_goesLeg_115, eX6_goesLeg_118, eX6_goesLeg_119, eX6_goesLeg_122, eX6_goesLeg_123, eX6_goesLeg_124, eX6_goesLeg_127, eX6_goesLeg_128, eX6_goesLeg_131, eX6_goesLeg_132, eX6_goesLeg_in, zH2_gK, zH2_gR, zH2_at, zH2_sI, zU_ne, P, zMkk P, cM_isGood (zH2_mk.mpr P), h1', kM_priceOf P r0 r1 g0 c4', ep, hpr, c4', c5, c6]
            refine kM_roomOf P h1 s0 (by omega) (fun f1 => ?_)
            simp (disch := (first | (simp only [gK_sI, gK_sJ, gK_sR, gK_sIA, gK_sJA, gR_sI, gR_sJ, gR_sIA, Nat.reduceLeDiff, Nat.reduceEqDiff, Nat.reduceLT, Int.reduceLE, Int.reduceLT, Int.reduceEq, zWt_i, zWt_l, zWt_r, zWt_n, zH2_gK, zH2_mk, P, zMkk P] <;> omega) | omega | fail)) only [if_pos, if_neg, wI_id, zLc_lt, zLc_gt, zLc_eq, zLc_le, zLc_ge, Int.reduceEq, Int.reduceLE, Int.reduceLT, Int.reduceNeg, Int.reduceAdd, Int.reduceMul, Int.reduceSub, not_true_eq_false, not_false_eq_true, reduceIte, zPo_v, zPo_n, zPo_t, zKl_i, zKl_r, zKl_n, zKl_l, gK_sI, gK_sJ, gK_sR, gK_sIA, gK_sJA, gR_sI, gR_sJ, gJ_sI, gI_sJ, gI_sR, gJ_sR, gR_sIA, gJ_sIA, Nat.reduceLeDiff, Nat.reduceEqDiff, and_self, and_true, true_and, and_false, false_and, eX6_goesLeg_0, eX6_goesLeg_1, eX6_goesLeg_2, eX6_goesLeg_3, eX6_goesLeg_6, eX6_goesLeg_8, eX6_goesLeg_9, eX6_goesLeg_10, eX6_goesLeg_13, eX6_goesLeg_16, eX6_goesLeg_18, eX6_goesLeg_19, eX6_goesLeg_22, eX6_goesLeg_23, eX6_goesLeg_25, eX6_goesLeg_26, eX6_goesLeg_29, eX6_goesLeg_32, eX6_goesLeg_33, eX6_goesLeg_34, eX6_goesLeg_35, eX6_goesLeg_36, eX6_goesLeg_39, eX6_goesLeg_40, eX6_goesLeg_42, eX6_goesLeg_45, eX6_goesLeg_46, eX6_goesLeg_47, eX6_goesLeg_50, eX6_goesLeg_53, eX6_goesLeg_54, eX6_goesLeg_56, eX6_goesLeg_57, eX6_goesLeg_60, eX6_goesLeg_63, eX6_goesLeg_64, eX6_goesLeg_65, eX6_goesLeg_66, eX6_goesLeg_67, eX6_goesLeg_70, eX6_goesLeg_71, eX6_goesLeg_72, eX6_goesLeg_73, eX6_goesLeg_76, eX6_goesLeg_77, eX6_goesLeg_79, eX6_goesLeg_80, eX6_goesLeg_83, eX6_goesLeg_84, eX6_goesLeg_87, eX6_goesLeg_89, eX6_goesLeg_91, eX6_goesLeg_94, eX6_goesLeg_95, eX6_goesLeg_96, eX6_goesLeg_97, eX6_goesLeg_98, eX6_goesLeg_99, eX6_goesLeg_101, eX6_goesLeg_104, eX6_goesLeg_105, eX6_goesLeg_106, eX6_goesLeg_107, eX6_goesLeg_108, eX6_goesLeg_111, eX6_goesLeg_113, eX6_goesLeg_114, eX6_goesLeg_115, eX6_goesLeg_118, eX6_goesLeg_119, eX6_goesLeg_122, eX6_goesLeg_123, eX6_goesLeg_124, eX6_goesLeg_127, eX6_goesLeg_128, eX6_goesLeg_131, eX6_goesLeg_132, eX6_goesLeg_in, zH2_gK, zH2_gR, zH2_at, zH2_sI, zU_ne, P, zMkk P, kM_shipOf P s0 s4, e4, kM_priceOf P r0 r1 g0 c4', ep, hpr, ed]
            exact hn rfl _ _ hos
          · rw [if_pos ⟨by omega, c6, c7⟩] at hy
            simp (disch := (first | (simp only [gK_sI, gK_sJ, gK_sR, gK_sIA, gK_sJA, gR_sI, gR_sJ, gR_sIA, Nat.reduceLeDiff, Nat.reduceEqDiff, Nat.reduceLT, Int.reduceLE, Int.reduceLT, Int.reduceEq, zWt_i, zWt_l, zWt_r, zWt_n, zH2_gK, zH2_mk, P, zMkk P] <;> omega) | omega | fail)) only [if_pos, if_neg, wI_id, zLc_lt, zLc_gt, zLc_eq, zLc_le, zLc_ge, Int.reduceEq, Int.reduceLE, Int.reduceLT, Int.reduceNeg, Int.reduceAdd, Int.reduceMul, Int.reduceSub, not_true_eq_false, not_false_eq_true, reduceIte, zPo_v, zPo_n, zPo_t, zKl_i, zKl_r, zKl_n, zKl_l, gK_sI, gK_sJ, gK_sR, gK_sIA, gK_sJA, gR_sI, gR_sJ, gJ_sI, gI_sJ, gI_sR, gJ_sR, gR_sIA, gJ_sIA, Nat.reduceLeDiff, Nat.reduceEqDiff, and_self, and_true, true_and, and_false, false_and, eX6_goesLeg_0, eX6_goesLeg_1, eX6_goesLeg_2, eX6_goesLeg_3, eX6_goesLeg_6, eX6_goesLeg_8, eX6_goesLeg_9, eX6_goesLeg_10, eX6_goesLeg_13, eX6_goesLeg_16, eX6_goesLeg_18, eX6_goesLeg_19, eX6_goesLeg_22, eX6_goesLeg_23, eX6_goesLeg_25, eX6_goesLeg_26, eX6_goesLeg_29, eX6_goesLeg_32, eX6_goesLeg_33, eX6_goesLeg_34, eX6_goesLeg_35, eX6_goesLeg_36, eX6_goesLeg_39, eX6_goesLeg_40, eX6_goesLeg_42, eX6_goesLeg_45, eX6_goesLeg_46, eX6_goesLeg_47, eX6_goesLeg_50, eX6_goesLeg_53, eX6_goesLeg_54, eX6_goesLeg_56, eX6_goesLeg_57, eX6_goesLeg_60, eX6_goesLeg_63, eX6_goesLeg_64, eX6_goesLeg_65, eX6_goesLeg_66, eX6_goesLeg_67, eX6_goesLeg_70, eX6_goesLeg_71, eX6_goesLeg_72, eX6_goesLeg_73, eX6_goesLeg_76, eX6_goesLeg_77, eX6_goesLeg_79, eX6_goesLeg_80, eX6_goesLeg_83, eX6_goesLeg_84, eX6_goesLeg_87, eX6_goesLeg_89, eX6_goesLeg_91, eX6_goesLeg_94, eX6_goesLeg_95, eX6_goesLeg_96, eX6_goesLeg_97, eX6_goesLeg_98, eX6_goesLeg_99, eX6_goesLeg_101, eX6_goesLeg_104, eX6_goesLeg_105, eX6_goesLeg_106, eX6_goesLeg_107, eX6_goesLeg_108, eX6_goesLeg_111, eX6_goesLeg_113, eX6_goesLeg_114, eX6_goesLeg_115, eX6_goesLeg_118, eX6_goesLeg_119, eX6_goesLeg_122, eX6_goesLeg_123, eX6_goesLeg_124, eX6_goesLeg_127, eX6_goesLeg_128, eX6_goesLeg_131, eX6_goesLeg_132, eX6_goesLeg_in, zH2_gK, zH2_gR, zH2_at, zH2_sI, zU_ne, P, zMkk P, cM_isGood (zH2_mk.mpr P), h1', kM_priceOf P r0 r1 g0 c4', ep, hpr, c4', c5, c6]
            refine kM_roomOf P h1 s0 (by omega) (fun f1 => ?_)
            simp (disch := (first | (simp only [gK_sI, gK_sJ, gK_sR, gK_sIA, gK_sJA, gR_sI, gR_sJ, gR_sIA, Nat.reduceLeDiff, Nat.reduceEqDiff, Nat.reduceLT, Int.reduceLE, Int.reduceLT, Int.reduceEq, zWt_i, zWt_l, zWt_r, zWt_n, zH2_gK, zH2_mk, P, zMkk P] <;> omega) | omega | fail)) only [if_pos, if_neg, wI_id, zLc_lt, zLc_gt, zLc_eq, zLc_le, zLc_ge, Int.reduceEq, Int.reduceLE, Int.reduceLT, Int.reduceNeg, Int.reduceAdd, Int.reduceMul, Int.reduceSub, not_true_eq_false, not_false_eq_true, reduceIte, zPo_v, zPo_n, zPo_t, zKl_i, zKl_r, zKl_n, zKl_l, gK_sI, gK_sJ, gK_sR, gK_sIA, gK_sJA, gR_sI, gR_sJ, gJ_sI, gI_sJ, gI_sR, gJ_sR, gR_sIA, gJ_sIA, Nat.reduceLeDiff, Nat.reduceEqDiff, and_self, and_true, true_and, and_false, false_and, eX6_goesLeg_0, eX6_goesLeg_1, eX6_goesLeg_2, eX6_goesLeg_3, eX6_goesLeg_6, eX6_goesLeg_8, eX6_goesLeg_9, eX6_goesLeg_10, eX6_goesLeg_13, eX6_goesLeg_16, eX6_goesLeg_18, eX6_goesLeg_19, eX6_goesLeg_22, eX6_goesLeg_23, eX6_goesLeg_25, eX6_goesLeg_26, eX6_goesLeg_29, eX6_goesLeg_32, eX6_goesLeg_33, eX6_goesLeg_34, eX6_goesLeg_35, eX6_goesLeg_36, eX6_goesLeg_39, eX6_goesLeg_40, eX6_goesLeg_42, eX6_goesLeg_45, eX6_goesLeg_46, eX6_goesLeg_47, eX6_goesLeg_50, eX6_goesLeg_53, eX6_goesLeg_54, eX6_goesLeg_56, eX6_goesLeg_57, eX6_goesLeg_60, eX6_goesLeg_63, eX6_goesLeg_64, eX6_goesLeg_65, eX6_goesLeg_66, eX6_goesLeg_67, eX6_goesLeg_70, eX6_goesLeg_71, eX6_goesLeg_72, eX6_goesLeg_73, eX6_goesLeg_76, eX6_goesLeg_77, eX6_goesLeg_79, eX6_goesLeg_80, eX6_goesLeg_83, eX6_goesLeg_84, eX6_goesLeg_87, eX6_goesLeg_89, eX6_goesLeg_91, eX6_goesLeg_94, eX6_goesLeg_95, eX6_goesLeg_96, eX6_goesLeg_97, eX6_goesLeg_98, eX6_goesLeg_99, eX6_goesLeg_101, eX6_goesLeg_104, eX6_goesLeg_105, eX6_goesLeg_106, eX6_goesLeg_107, eX6_goesLeg_108, eX6_goesLeg_111, eX6_goesLeg_113, eX6_goesLeg_114, eX6_goesLeg_115, eX6_goesLeg_118, eX6_goesLeg_119, eX6_goesLeg_122, eX6_goesLeg_123, eX6_goesLeg_124, eX6_goesLeg_127, eX6_goesLeg_128, eX6_goesLeg_131, eX6_goesLeg_132, eX6_goesLeg_in, zH2_gK, zH2_gR, zH2_at, zH2_sI, zU_ne, P, zMkk P, kM_shipOf P s0 s4, e4, kM_priceOf P r0 r1 g0 c4', ep, hpr, ed]
            rw [em]
            refine kM_buys P h1 s0 (by omega) g0 c4' (by omega) n1 (fun _ f2 => ?_) (fun q => absurd (n2 c7) q)
            simp (disch := (first | (simp only [gK_sI, gK_sJ, gK_sR, gK_sIA, gK_sJA, gR_sI, gR_sJ, gR_sIA, Nat.reduceLeDiff, Nat.reduceEqDiff, Nat.reduceLT, Int.reduceLE, Int.reduceLT, Int.reduceEq, zWt_i, zWt_l, zWt_r, zWt_n] <;> omega) | omega | fail)) only [if_pos, if_neg, wI_id, zLc_lt, zLc_gt, zLc_eq, zLc_le, zLc_ge, Int.reduceEq, Int.reduceLE, Int.reduceLT, Int.reduceNeg, Int.reduceAdd, Int.reduceMul, Int.reduceSub, not_true_eq_false, not_false_eq_true, reduceIte, zPo_v, zPo_n, zPo_t, zKl_i, zKl_r, zKl_n, zKl_l, gK_sI, gK_sJ, gK_sR, gK_sIA, gK_sJA, gR_sI, gR_sJ, gJ_sI, gI_sJ, gI_sR, gJ_sR, gR_sIA, gJ_sIA, Nat.reduceLeDiff, Nat.reduceEqDiff, and_self, and_true, true_and, and_false, false_and, eX6_goesLeg_0, eX6_goesLeg_1, eX6_goesLeg_2, eX6_goesLeg_3, eX6_goesLeg_6, eX6_goesLeg_8, eX6_goesLeg_9, eX6_goesLeg_10, eX6_goesLeg_13, eX6_goesLeg_16, eX6_goesLeg_18, eX6_goesLeg_19, eX6_goesLeg_22, eX6_goesLeg_23, eX6_goesLeg_25, eX6_goesLeg_26, eX6_goesLeg_29, eX6_goesLeg_32, eX6_goesLeg_33, eX6_goesLeg_34, eX6_goesLeg_35, eX6_goesLeg_36, eX6_goesLeg_39, eX6_goesLeg_40, eX6_goesLeg_42, eX6_goesLeg_45, eX6_goesLeg_46, eX6_goesLeg_47, eX6_goesLeg_50, eX6_goesLeg_53, eX6_goesLeg_54, eX6_goesLeg_56, eX6_goesLeg_57, eX6_goesLeg_60, eX6_goesLeg_63, eX6_goesLeg_64, eX6_goesLeg_65, eX6_goesLeg_66, eX6_goesLeg_67, eX6_goesLeg_70, eX6_goesLeg_71, eX6_goesLeg_72, eX6_goesLeg_73, eX6_goesLeg_76, eX6_goesLeg_77, eX6_goesLeg_79, eX6_goesLeg_80, eX6_goesLeg_83, eX6_goesLeg_84, eX6_goesLeg_87, eX6_goesLeg_89, eX6_goesLeg_91, eX6_goesLeg_94, eX6_goesLeg_95, eX6_goesLeg_96, eX6_goesLeg_97, eX6_goesLeg_98, eX6_goesLeg_99, eX6_goesLeg_101, eX6_goesLeg_104, eX6_goesLeg_106, eX6_goesLeg_107, eX6_goesLeg_108, eX6_goesLeg_111, eX6_goesLeg_113, eX6_goesLeg_114, eX6_goesLeg_115, eX6_goesLeg_118, eX6_goesLeg_119, eX6_goesLeg_122, eX6_goesLeg_123, eX6_goesLeg_124, eX6_goesLeg_127, eX6_goesLeg_128, eX6_goesLeg_131, eX6_goesLeg_132, eX6_goesLeg_in]
            obtain ⟨w1, w2⟩ := fBuy_f h1 s0 (by omega) g0 (by omega) (by omega) n1 (n2 c7)
            have x3 := w2 3 (by omega) (by omega)
            have x2 := w2 2 (by omega) (by omega)
            have x6 := w2 (146 + 15 * s) (by omega) (by omega)
            have xw := w2 (65 + 15 * a (146 + 15 * s) + p) (by omega) (by omega)
            refine tail _ f2 _ w1 (by omega) (by omega) ?_ (hy _ rfl)
            unfold fSailOk at ok ⊢
            rw [x6, h6, xw, ← h6]
            exact ok
      · rw [if_neg (fun q => c5 (by omega))] at hn
        simp (disch := (first | (simp only [gK_sI, gK_sJ, gK_sR, gK_sIA, gK_sJA, gR_sI, gR_sJ, gR_sIA, Nat.reduceLeDiff, Nat.reduceEqDiff, Nat.reduceLT, Int.reduceLE, Int.reduceLT, Int.reduceEq, zWt_i, zWt_l, zWt_r, zWt_n, zH2_gK, zH2_mk, P, zMkk P] <;> omega) | omega | fail)) only [if_pos, if_neg, wI_id, zLc_lt, zLc_gt, zLc_eq, zLc_le, zLc_ge, Int.reduceEq, Int.reduceLE, Int.reduceLT, Int.reduceNeg, Int.reduceAdd, Int.reduceMul, Int.reduceSub, not_true_eq_false, not_false_eq_true, reduceIte, zPo_v, zPo_n, zPo_t, zKl_i, zKl_r, zKl_n, zKl_l, gK_sI, gK_sJ, gK_sR, gK_sIA, gK_sJA, gR_sI, gR_sJ, gJ_sI, gI_sJ, gI_sR, gJ_sR, gR_sIA, gJ_sIA, Nat.reduceLeDiff, Nat.reduceEqDiff, and_self, and_true, true_and, and_false, false_and, eX6_goesLeg_0, eX6_goesLeg_1, eX6_goesLeg_2, eX6_goesLeg_3, eX6_goesLeg_6, eX6_goesLeg_8, eX6_goesLeg_9, eX6_goesLeg_10, eX6_goesLeg_13, eX6_goesLeg_16, eX6_goesLeg_18, eX6_goesLeg_19, eX6_goesLeg_22, eX6_goesLeg_23, eX6_goesLeg_25, eX6_goesLeg_26, eX6_goesLeg_29, eX6_goesLeg_32, eX6_goesLeg_33, eX6_goesLeg_34, eX6_goesLeg_35, eX6_goesLeg_36, eX6_goesLeg_39, eX6_goesLeg_40, eX6_goesLeg_42, eX6_goesLeg_45, eX6_goesLeg_46, eX6_goesLeg_47, eX6_goesLeg_50, eX6_goesLeg_53, eX6_goesLeg_54, eX6_goesLeg_56, eX6_goesLeg_57, eX6_goesLeg_60, eX6_goesLeg_63, eX6_goesLeg_64, eX6_goesLeg_65, eX6_goesLeg_66, eX6_goesLeg_67, eX6_goesLeg_70, eX6_goesLeg_71, eX6_goesLeg_72, eX6_goesLeg_73, eX6_goesLeg_76, eX6_goesLeg_77, eX6_goesLeg_79, eX6_goesLeg_80, eX6_goesLeg_83, eX6_goesLeg_84, eX6_goesLeg_87, eX6_goesLeg_89, eX6_goesLeg_91, eX6_goesLeg_94, eX6_goesLeg_95, eX6_goesLeg_96, eX6_goesLeg_97, eX6_goesLeg_98, eX6_goesLeg_99, eX6_goesLeg_101, eX6_goesLeg_104, eX6_goesLeg_105, eX6_goesLeg_106, eX6_goesLeg_107, eX6_goesLeg_108, eX6_goesLeg_111, eX6_goesLeg_113, eX6_goesLeg_114, eX6_goesLeg_115, eX6_goesLeg_118, eX6_goesLeg_119, eX6_goesLeg_122, eX6_goesLeg_123, eX6_goesLeg_124, eX6_goesLeg_127, eX6_goesLeg_128, eX6_goesLeg_131, eX6_goesLeg_132, eX6_goesLeg_in, zH2_gK, zH2_gR, zH2_at, zH2_sI, zU_ne, P, zMkk P, cM_isGood (zH2_mk.mpr P), h1', c4', c5]
        exact hn rfl _ _ hos
  · have eL : fLeg a s p g = none := if_neg c
    have hn := hn eL a f zOs_rf
    by_cases c1 : p < a 2
    · by_cases c2 : a (146 + 15 * s) = p
      · simp (disch := (first | (simp only [gK_sI, gK_sJ, gK_sR, gK_sIA, gK_sJA, gR_sI, gR_sJ, gR_sIA, Nat.reduceLeDiff, Nat.reduceEqDiff, Nat.reduceLT, Int.reduceLE, Int.reduceLT, Int.reduceEq, zWt_i, zWt_l, zWt_r, zWt_n, zH2_gK, zH2_mk, P, zMkk P] <;> omega) | omega | fail)) only [if_pos, if_neg, wI_id, zLc_lt, zLc_gt, zLc_eq, zLc_le, zLc_ge, Int.reduceEq, Int.reduceLE, Int.reduceLT, Int.reduceNeg, Int.reduceAdd, Int.reduceMul, Int.reduceSub, not_true_eq_false, not_false_eq_true, reduceIte, zPo_v, zPo_n, zPo_t, zKl_i, zKl_r, zKl_n, zKl_l, gK_sI, gK_sJ, gK_sR, gK_sIA, gK_sJA, gR_sI, gR_sJ, gJ_sI, gI_sJ, gI_sR, gJ_sR, gR_sIA, gJ_sIA, Nat.reduceLeDiff, Nat.reduceEqDiff, and_self, and_true, true_and, and_false, false_and, eX6_goesLeg_0, eX6_goesLeg_1, eX6_goesLeg_2, eX6_goesLeg_3, eX6_goesLeg_6, eX6_goesLeg_8, eX6_goesLeg_9, eX6_goesLeg_10, eX6_goesLeg_13, eX6_goesLeg_16, eX6_goesLeg_18, eX6_goesLeg_19, eX6_goesLeg_22, eX6_goesLeg_23, eX6_goesLeg_25, eX6_goesLeg_26, eX6_goesLeg_29, eX6_goesLeg_32, eX6_goesLeg_33, eX6_goesLeg_34, eX6_goesLeg_35, eX6_goesLeg_36, eX6_goesLeg_39, eX6_goesLeg_40, eX6_goesLeg_42, eX6_goesLeg_45, eX6_goesLeg_46, eX6_goesLeg_47, eX6_goesLeg_50, eX6_goesLeg_53, eX6_goesLeg_54, eX6_goesLeg_56, eX6_goesLeg_57, eX6_goesLeg_60, eX6_goesLeg_63, eX6_goesLeg_64, eX6_goesLeg_65, eX6_goesLeg_66, eX6_goesLeg_67, eX6_goesLeg_70, eX6_goesLeg_71, eX6_goesLeg_72, eX6_goesLeg_73, eX6_goesLeg_76, eX6_goesLeg_77, eX6_goesLeg_79, eX6_goesLeg_80, eX6_goesLeg_83, eX6_goesLeg_84, eX6_goesLeg_87, eX6_goesLeg_89, eX6_goesLeg_91, eX6_goesLeg_94, eX6_goesLeg_95, eX6_goesLeg_96, eX6_goesLeg_97, eX6_goesLeg_98, eX6_goesLeg_99, eX6_goesLeg_101, eX6_goesLeg_104, eX6_goesLeg_105, eX6_goesLeg_106, eX6_goesLeg_107, eX6_goesLeg_108, eX6_goesLeg_111, eX6_goesLeg_113, eX6_goesLeg_114, eX6_goesLeg_115, eX6_goesLeg_118, eX6_goesLeg_119, eX6_goesLeg_122, eX6_goesLeg_123, eX6_goesLeg_124, eX6_goesLeg_127, eX6_goesLeg_128, eX6_goesLeg_131, eX6_goesLeg_132, eX6_goesLeg_in, zH2_gK, zH2_gR, zH2_at, zH2_sI, zU_ne, P, zMkk P, kM_shipOf P s0 s4, e0, cM_isPort (zH2_mk.mpr P), c1, c2]
        exact hn
      · have c3 : a (65 + 15 * a (146 + 15 * s) + p) = 0 := Classical.byContradiction (fun q => c ⟨c1, c2, q⟩)
        simp (disch := (first | (simp only [gK_sI, gK_sJ, gK_sR, gK_sIA, gK_sJA, gR_sI, gR_sJ, gR_sIA, Nat.reduceLeDiff, Nat.reduceEqDiff, Nat.reduceLT, Int.reduceLE, Int.reduceLT, Int.reduceEq, zWt_i, zWt_l, zWt_r, zWt_n, zH2_gK, zH2_mk, P, zMkk P] <;> omega) | omega | fail)) only [if_pos, if_neg, wI_id, zLc_lt, zLc_gt, zLc_eq, zLc_le, zLc_ge, Int.reduceEq, Int.reduceLE, Int.reduceLT, Int.reduceNeg, Int.reduceAdd, Int.reduceMul, Int.reduceSub, not_true_eq_false, not_false_eq_true, reduceIte, zPo_v, zPo_n, zPo_t, zKl_i, zKl_r, zKl_n, zKl_l, gK_sI, gK_sJ, gK_sR, gK_sIA, gK_sJA, gR_sI, gR_sJ, gJ_sI, gI_sJ, gI_sR, gJ_sR, gR_sIA, gJ_sIA, Nat.reduceLeDiff, Nat.reduceEqDiff, and_self, and_true, true_and, and_false, false_and, eX6_goesLeg_0, eX6_goesLeg_1, eX6_goesLeg_2, eX6_goesLeg_3, eX6_goesLeg_6, eX6_goesLeg_8, eX6_goesLeg_9, eX6_goesLeg_10, eX6_goesLeg_13, eX6_goesLeg_16, eX6_goesLeg_18, eX6_goesLeg_19, eX6_goesLeg_22, eX6_goesLeg_23, eX6_goesLeg_25, eX6_goesLeg_26, eX6_goesLeg_29, eX6_goesLeg_32, eX6_goesLeg_33, eX6_goesLeg_34, eX6_goesLeg_35, eX6_goesLeg_36, eX6_goesLeg_39, eX6_goesLeg_40, eX6_goesLeg_42, eX6_goesLeg_45, eX6_goesLeg_46, eX6_goesLeg_47, eX6_goesLeg_50, eX6_goesLeg_53, eX6_goesLeg_54, eX6_goesLeg_56, eX6_goesLeg_57, eX6_goesLeg_60, eX6_goesLeg_63, eX6_goesLeg_64, eX6_goesLeg_65, eX6_goesLeg_66, eX6_goesLeg_67, eX6_goesLeg_70, eX6_goesLeg_71, eX6_goesLeg_72, eX6_goesLeg_73, eX6_goesLeg_76, eX6_goesLeg_77, eX6_goesLeg_79, eX6_goesLeg_80, eX6_goesLeg_83, eX6_goesLeg_84, eX6_goesLeg_87, eX6_goesLeg_89, eX6_goesLeg_91, eX6_goesLeg_94, eX6_goesLeg_95, eX6_goesLeg_96, eX6_goesLeg_97, eX6_goesLeg_98, eX6_goesLeg_99, eX6_goesLeg_101, eX6_goesLeg_104, eX6_goesLeg_105, eX6_goesLeg_106, eX6_goesLeg_107, eX6_goesLeg_108, eX6_goesLeg_111, eX6_goesLeg_113, eX6_goesLeg_114, eX6_goesLeg_115, eX6_goesLeg_118, eX6_goesLeg_119, eX6_goesLeg_122, eX6_goesLeg_123, eX6_goesLeg_124, eX6_goesLeg_127, eX6_goesLeg_128, eX6_goesLeg_131, eX6_goesLeg_132, eX6_goesLeg_in, zH2_gK, zH2_gR, zH2_at, zH2_sI, zU_ne, P, zMkk P, kM_shipOf P s0 s4, e0, cM_isPort (zH2_mk.mpr P), kM_wayOf P r0 r1 p0 p6, ew, c1, c2, c3]
        exact hn
    · simp (disch := (first | (simp only [gK_sI, gK_sJ, gK_sR, gK_sIA, gK_sJA, gR_sI, gR_sJ, gR_sIA, Nat.reduceLeDiff, Nat.reduceEqDiff, Nat.reduceLT, Int.reduceLE, Int.reduceLT, Int.reduceEq, zWt_i, zWt_l, zWt_r, zWt_n, zH2_gK, zH2_mk, P, zMkk P] <;> omega) | omega | fail)) only [if_pos, if_neg, wI_id, zLc_lt, zLc_gt, zLc_eq, zLc_le, zLc_ge, Int.reduceEq, Int.reduceLE, Int.reduceLT, Int.reduceNeg, Int.reduceAdd, Int.reduceMul, Int.reduceSub, not_true_eq_false, not_false_eq_true, reduceIte, zPo_v, zPo_n, zPo_t, zKl_i, zKl_r, zKl_n, zKl_l, gK_sI, gK_sJ, gK_sR, gK_sIA, gK_sJA, gR_sI, gR_sJ, gJ_sI, gI_sJ, gI_sR, gJ_sR, gR_sIA, gJ_sIA, Nat.reduceLeDiff, Nat.reduceEqDiff, and_self, and_true, true_and, and_false, false_and, eX6_goesLeg_0, eX6_goesLeg_1, eX6_goesLeg_2, eX6_goesLeg_3, eX6_goesLeg_6, eX6_goesLeg_8, eX6_goesLeg_9, eX6_goesLeg_10, eX6_goesLeg_13, eX6_goesLeg_16, eX6_goesLeg_18, eX6_goesLeg_19, eX6_goesLeg_22, eX6_goesLeg_23, eX6_goesLeg_25, eX6_goesLeg_26, eX6_goesLeg_29, eX6_goesLeg_32, eX6_goesLeg_33, eX6_goesLeg_34, eX6_goesLeg_35, eX6_goesLeg_36, eX6_goesLeg_39, eX6_goesLeg_40, eX6_goesLeg_42, eX6_goesLeg_45, eX6_goesLeg_46, eX6_goesLeg_47, eX6_goesLeg_50, eX6_goesLeg_53, eX6_goesLeg_54, eX6_goesLeg_56, eX6_goesLeg_57, eX6_goesLeg_60, eX6_goesLeg_63, eX6_goesLeg_64, eX6_goesLeg_65, eX6_goesLeg_66, eX6_goesLeg_67, eX6_goesLeg_70, eX6_goesLeg_71, eX6_goesLeg_72, eX6_goesLeg_73, eX6_goesLeg_76, eX6_goesLeg_77, eX6_goesLeg_79, eX6_goesLeg_80, eX6_goesLeg_83, eX6_goesLeg_84, eX6_goesLeg_87, eX6_goesLeg_89, eX6_goesLeg_91, eX6_goesLeg_94, eX6_goesLeg_95, eX6_goesLeg_96, eX6_goesLeg_97, eX6_goesLeg_98, eX6_goesLeg_99, eX6_goesLeg_101, eX6_goesLeg_104, eX6_goesLeg_105, eX6_goesLeg_106, eX6_goesLeg_107, eX6_goesLeg_108, eX6_goesLeg_111, eX6_goesLeg_113, eX6_goesLeg_114, eX6_goesLeg_115, eX6_goesLeg_118, eX6_goesLeg_119, eX6_goesLeg_122, eX6_goesLeg_123, eX6_goesLeg_124, eX6_goesLeg_127, eX6_goesLeg_128, eX6_goesLeg_131, eX6_goesLeg_132, eX6_goesLeg_in, zH2_gK, zH2_gR, zH2_at, zH2_sI, zU_ne, P, zMkk P, kM_shipOf P s0 s4, e0, cM_isPort (zH2_mk.mpr P), c1]
      exact hn
end O37
