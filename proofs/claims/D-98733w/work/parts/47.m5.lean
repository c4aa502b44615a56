/-! ===== THE REFERENCE, 5: days ===== -/
set_option maxRecDepth 100000
theorem zEq8_of {a b : Int → Int} {s : Int} (e : ∀ k, 153 + 15 * s ≤ k → k < 161 + 15 * s → b k = a k) : zEq8 (fLd b s) (fLd a s) := fun g g0 g1 => e _ (by omega) (by omega)
/-- what holds of the ships alone changes -/
theorem zIv_ships {a b : Int → Int} (v : zIv a) (e : ∀ k, k < 146 → b k = a k) (c1 : ∀ s, 0 ≤ s → s < a 3 → (0 ≤ b (148 + 15 * s) ∧ b (148 + 15 * s) ≤ 20) ∧ (0 < b (148 + 15 * s) → b (146 + 15 * s) = -1 ∧ 0 ≤ b (147 + 15 * s) ∧ b (147 + 15 * s) < a 2) ∧ (b (148 + 15 * s) ≤ 0 → b (147 + 15 * s) = -1 ∧ 0 ≤ b (146 + 15 * s) ∧ b (146 + 15 * s) < a 2))
    (c2 : ∀ s, 0 ≤ s → s < a 3 → 1 ≤ b (149 + 15 * s) ∧ b (149 + 15 * s) ≤ 60) (c3 : ∀ s, 0 ≤ s → s < a 3 → 0 ≤ b (150 + 15 * s) ∧ b (150 + 15 * s) ≤ 9999) (c4 : ∀ s g, 0 ≤ s → s < 4 → 0 ≤ g → g < 8 → 0 ≤ b (153 + 15 * s + g) ∧ b (153 + 15 * s + g) ≤ 60 ∧ (a 1 ≤ g → b (153 + 15 * s + g) = 0)) (c5 : ∀ s, 0 ≤ s → s < a 3 → fTons (fLd b s) ≤ b (149 + 15 * s)) : zIv b := by
  obtain ⟨v1, v2, v3, v4, v5, v6, v7, v8, v9, v10, v11, -⟩ := v
  have e0 := e 0 (by omega)
  have e1 := e 1 (by omega)
  have e2 := e 2 (by omega)
  have e3 := e 3 (by omega)
  have e4 := e 4 (by omega)
  have e5 := e 5 (by omega)
  refine ⟨?_, by rw [e2]; exact v2, by rw [e3]; exact v3, by rw [e4]; exact v4, by rw [e5]; exact v5, fun n n0 n1 => ?_, fun n n0 n1 => ?_, fun g g0 g1 => ?_, fun p p0 p1 => ?_, fun p g p0 p1 g0 g1 => ?_, fun p q p0 p1 q0 q1 => ?_, fun s s0 s1 => ?_, fun s s0 s1 => ?_, fun s s0 s1 => ?_, fun s g s0 s1 g0 g1 => ?_, fun s s0 s1 => ?_⟩
  · obtain ⟨w1, w2, w3, w4⟩ := v1
    exact ⟨by rw [e0]; exact w1, by rw [e1]; exact w2, fun g g0 g1 => by rw [e _ (by omega)]; exact w3 g g0 g1, fun g g0 g1 => by rw [e _ (by omega)]; exact w4 g g0 g1⟩
  · rw [e0] at n1
    have := v1.1
    rw [e _ (by omega), e _ (by omega), e _ (by omega)]
    exact v6 n n0 n1
  · rw [e _ (by omega)]
    exact v7 n n0 n1
  · rw [e1] at g1
    have := v1.2.1
    rw [e _ (by omega), e0]
    exact v8 g g0 g1
  · rw [e2] at p1
    rw [e _ (by omega), e0]
    exact v9 p p0 p1
  · rw [e _ (by omega)]
    exact v10 p g p0 p1 g0 g1
  · rw [e _ (by omega), e _ (by omega)]
    exact v11 p q p0 p1 q0 q1
  · rw [e3] at s1
    rw [e2]
    exact c1 s s0 s1
  · rw [e3] at s1
    exact c2 s s0 s1
  · rw [e3] at s1
    exact c3 s s0 s1
  · rw [e1]
    exact c4 s g s0 s1 g0 g1
  · rw [e3] at s1
    exact c5 s s0 s1
/-- tons and what the sea says stay -/
theorem zIv_money {a b : Int → Int} (v : zIv a) (e : ∀ k, k < 146 → b k = a k) (e2 : ∀ s i, 0 ≤ s → s < 4 → 0 ≤ i → i < 15 → i ≠ 4 → i ≠ 5 → i ≠ 6 → b (146 + 15 * s + i) = a (146 + 15 * s + i)) (c3 : ∀ s, 0 ≤ s → s < a 3 → 0 ≤ b (150 + 15 * s) ∧ b (150 + 15 * s) ≤ 9999) : zIv b := by
  have h4 := (zIships v).2
  have g : ∀ s k, 0 ≤ s → s < 4 → 146 + 15 * s ≤ k → k < 161 + 15 * s → k ≠ 150 + 15 * s → k ≠ 151 + 15 * s → k ≠ 152 + 15 * s → b k = a k := fun s k s0 s1 k0 k1 k2 k3 k4 => by
    have h9 := e2 s (k - (146 + 15 * s)) s0 s1 (by omega) (by omega) (by omega) (by omega) (by omega)
    have e9 : 146 + 15 * s + (k - (146 + 15 * s)) = k := by omega
    rw [e9] at h9
    exact h9
  refine zIv_ships v e (fun s s0 s1 => ?_) (fun s s0 s1 => ?_) c3 (fun s i s0 s1 i0 i1 => ?_) (fun s s0 s1 => ?_)
  · rw [g s _ s0 (by omega) (by omega) (by omega) (by omega) (by omega) (by omega), g s _ s0 (by omega) (by omega) (by omega) (by omega) (by omega) (by omega), g s _ s0 (by omega) (by omega) (by omega) (by omega) (by omega) (by omega)]
    exact zIsea v s s0 s1
  · rw [g s _ s0 (by omega) (by omega) (by omega) (by omega) (by omega) (by omega)]
    exact zIhold v s s0 s1
  · rw [g s _ s0 s1 (by omega) (by omega) (by omega) (by omega) (by omega)]
    exact zIton v s i s0 s1 i0 i1
  · rw [g s _ s0 (by omega) (by omega) (by omega) (by omega) (by omega) (by omega), fTons_congr (zEq8_of (a := a) (fun k k0 k1 => g s k s0 (by omega) (by omega) (by omega) (by omega) (by omega) (by omega)))]
    exact zIfull v s s0 s1
def fPay (a : Int → Int) (s : Int) : Int → Int := if a (146 + 15 * s) = -1 ∧ fFl a s ≠ -1 then (if a (150 + 15 * s) < a (8 + 4 * fFl a s) then zU a (151 + 15 * s) (wI (a (151 + 15 * s) + 1)) else zU a (150 + 15 * s) (a (150 + 15 * s) - a (8 + 4 * fFl a s))) else a
def fLeak (a : Int → Int) (s : Int) : Int → Int := fun k => if 153 + 15 * s ≤ k ∧ k < 161 + 15 * s then fLk a 1 (fLd a s) (k - (153 + 15 * s)) else a k
def fLand (a : Int → Int) (s : Int) : Int → Int := zU (zU a (146 + 15 * s) (a (147 + 15 * s))) (147 + 15 * s) (-1)
def fDue (b : Int → Int) (s n : Int) : Int := min (b (150 + 15 * s)) (b (9 + 4 * n) * fTons (fLd b s))
def fDuty (b : Int → Int) (s n : Int) : Int → Int := zU (zU b (150 + 15 * s) (b (150 + 15 * s) - fDue b s n)) (152 + 15 * s) (wI (b (152 + 15 * s) + fDue b s n))
def fCome (a : Int → Int) (s : Int) : Int → Int := if a (56 + 15 * a (147 + 15 * s)) = -1 ∨ fFl (fLand a s) s = a (56 + 15 * a (147 + 15 * s)) then fLand a s else fDuty (fLand a s) s (a (56 + 15 * a (147 + 15 * s)))
def fTick (b : Int → Int) (s : Int) : Int → Int := zU b (148 + 15 * s) (b (148 + 15 * s) - 1)
def fGo (a : Int → Int) (s : Int) : (Int → Int) × Int := if a (146 + 15 * s) ≠ -1 then (fLeak (fPay a s) s, 0) else if 0 < a (148 + 15 * s) - 1 then (fTick (fLeak (fPay a s) s) s, 0) else (fCome (fTick (fLeak (fPay a s) s) s) s, 1)
theorem fOr_p' : ∀ s : Nat, s < 64 → ∀ i : Nat, i < 6 → s < 2 ^ i → zOr s (zShl 1 i) < 2 ^ (i + 1) ∧ zOr s 0 < 2 ^ (i + 1) := by decide +kernel
theorem fLow_p' : ∀ s : Nat, s < 64 → ∀ i : Nat, i ≤ 6 → s ≠ 0 → s < 2 ^ i → fLow s < i := by decide +kernel
theorem fSet_p {a ld : Int → Int} {y m : Int} : ∀ n : Nat, n ≤ 6 → (fSet a ld y m n).toNat < 2 ^ n
  | 0, _ => by show (0 : Int).toNat < 1; decide
  | n + 1, hn => by
    have ih := fSet_p (a := a) (ld := ld) (y := y) (m := m) n (by omega)
    have hb := fSet_b (a := a) (ld := ld) (by9 := y) (most := m) n (by omega)
    have h9 := fOr_p' (fSet a ld y m n).toNat (by omega) n (by omega) ih
    rw [Int.toNat_of_nonneg hb.1] at h9
    show (if fW a ld n y = m then zOr (fSet a ld y m n) (zShl 1 n) else zOr (fSet a ld y m n) 0).toNat < 2 ^ (n + 1)
    have e : (((2 ^ (n + 1) : Nat)) : Int) = 2 ^ (n + 1) := by simp
    split
    · have := h9.1
      rw [← e] at this
      omega
    · have := h9.2
      rw [← e] at this
      omega
theorem fCap_p {a ld : Int → Int} {y : Int} (ha : zGd a) : (fCap a ld y).toNat < 2 ^ (a 0).toNat := by
  have h9 := ha.1
  unfold fCap
  split
  · exact fSet_p _ (by omega)
  · exact Nat.two_pow_pos _
theorem fOne_p {s : Int} {n : Nat} (h0 : 0 ≤ s) (h1 : s < 64) (hn : n ≤ 6) (hs : s.toNat < 2 ^ n) : fOne s < n ∨ fOne s = -1 := by
  unfold fOne
  split
  · rename_i hp
    have hz : s ≠ 0 := fun e => by
      rw [(fPop_0 h0 h1).mpr e] at hp
      omega
    have h9 := fLow_p' s.toNat (by omega) n hn (by omega) hs
    rw [Int.toNat_of_nonneg h0] at h9
    exact Or.inl h9
  · exact Or.inr rfl
theorem fFl_sub {a : Int → Int} {s : Int} (v : zIv a) : fFl a s < a 0 ∨ fFl a s = -1 := by
  have h9 := (zIgd v).1
  have hb := fCap_b (ld := fLd a s) (by9 := a 4) (zIgd v)
  have hp := fCap_p (ld := fLd a s) (y := a 4) (zIgd v)
  have h8 := fOne_p hb.1 hb.2 (by omega) hp
  unfold fFl
  omega
theorem fPay_ne {a : Int → Int} {s k : Int} (h1 : k ≠ 150 + 15 * s) (h2 : k ≠ 151 + 15 * s) : fPay a s k = a k := by
  unfold fPay
  split
  · split
    · exact zU_ne h2
    · exact zU_ne h1
  · rfl
theorem zIv_pay {a : Int → Int} {s : Int} (v : zIv a) (h0 : 0 ≤ s) (h1 : s < a 3) : zIv (fPay a s) := by
  have h4 := (zIships v).2
  refine zIv_money v (fun k hk => fPay_ne (by omega) (by omega)) (fun t i t0 t1 i0 i1 i2 i3 i4 => fPay_ne (by omega) (by omega)) (fun t t0 t1 => ?_)
  have hc := zIcoin v t t0 t1
  unfold fPay
  split
  · rename_i hf
    split
    · rw [zU_ne (by omega)]
      exact hc
    · rename_i hw
      by_cases e : t = s
      · subst e
        rw [zU_eq]
        have hb := fFl_b (a := a) (s := t)
        rcases fFl_sub (s := t) v with h9 | h9
        · have hn := (zInat v (fFl a t) (by omega) h9).1
          omega
        · exact absurd h9 hf.2
      · rw [zU_ne (by omega)]
        exact hc
  · exact hc
theorem fLeak_ne {a : Int → Int} {s k : Int} (h : k < 153 + 15 * s ∨ 161 + 15 * s ≤ k) : fLeak a s k = a k := by
  unfold fLeak
  exact if_neg (by omega)
theorem fLeak_at {a : Int → Int} {s g : Int} (g0 : 0 ≤ g) (g1 : g < 8) : fLeak a s (153 + 15 * s + g) = fLk a 1 (fLd a s) g := by
  unfold fLeak
  rw [if_pos (by omega)]
  congr 1
  omega
theorem fTons_le {f g : Int → Int} (h : ∀ i, 0 ≤ i → i < 8 → f i ≤ g i) : fTons f ≤ fTons g := by
  have key : ∀ n : Nat, n ≤ 8 → zSum n f ≤ zSum n g := by
    intro n
    induction n with
    | zero => intro _; exact Int.le_refl _
    | succ n ih =>
      intro hn
      have h1 := ih (by omega)
      have h2 := h n (by omega) (by omega)
      show zSum n f + f n ≤ zSum n g + g n
      omega
  exact key 8 (by omega)
theorem zIv_leak {a : Int → Int} {s : Int} (v : zIv a) (h0 : 0 ≤ s) (h1 : s < a 3) : zIv (fLeak a s) := by
  have h4 := (zIships v).2
  have hb : ∀ t g, 0 ≤ t → t < 4 → 0 ≤ g → g < 8 → 0 ≤ fLeak a s (153 + 15 * t + g) ∧ fLeak a s (153 + 15 * t + g) ≤ a (153 + 15 * t + g) := fun t g t0 t1 g0 g1 => by
    have ht := zIton v t g t0 t1 g0 g1
    by_cases e : t = s
    · subst e
      have hw := (zIgd v).2.2.2 g g0 g1
      rw [fLeak_at g0 g1]
      unfold fLk fLd
      split <;> omega
    · rw [fLeak_ne (by omega)]
      omega
  refine zIv_ships v (fun k hk => fLeak_ne (by omega)) (fun t t0 t1 => ?_) (fun t t0 t1 => ?_) (fun t t0 t1 => ?_) (fun t g t0 t1 g0 g1 => ?_) (fun t t0 t1 => ?_)
  · rw [fLeak_ne (by omega), fLeak_ne (by omega), fLeak_ne (by omega)]
    exact zIsea v t t0 t1
  · rw [fLeak_ne (by omega)]
    exact zIhold v t t0 t1
  · rw [fLeak_ne (by omega)]
    exact zIcoin v t t0 t1
  · have h9 := hb t g t0 t1 g0 g1
    have ht := zIton v t g t0 t1 g0 g1
    omega
  · rw [fLeak_ne (by omega)]
    have h9 := zIfull v t t0 t1
    have h8 : fTons (fLd (fLeak a s) t) ≤ fTons (fLd a t) := fTons_le (fun i i0 i1 => (hb t i t0 (by omega) i0 i1).2)
    omega
theorem fTick_ne {b : Int → Int} {s k : Int} (h : k ≠ 148 + 15 * s) : fTick b s k = b k := zU_ne h
theorem fLand_ne {b : Int → Int} {s k : Int} (h : k ≠ 146 + 15 * s) (h2 : k ≠ 147 + 15 * s) : fLand b s k = b k := by
  unfold fLand
  rw [zU_ne h2, zU_ne h]
theorem zIv_tick {a : Int → Int} {s : Int} (v : zIv a) (h0 : 0 ≤ s) (h1 : s < a 3) (hs : 0 < a (148 + 15 * s) - 1) : zIv (fTick a s) := by
  have h4 := (zIships v).2
  refine zIv_ships v (fun k hk => fTick_ne (by omega)) (fun t t0 t1 => ?_) (fun t t0 t1 => ?_) (fun t t0 t1 => ?_) (fun t g t0 t1 g0 g1 => ?_) (fun t t0 t1 => ?_)
  · rw [fTick_ne (b := a) (s := s) (k := 146 + 15 * t) (by omega), fTick_ne (b := a) (s := s) (k := 147 + 15 * t) (by omega)]
    have h9 := zIsea v t t0 t1
    by_cases e : t = s
    · subst e
      have e9 : fTick a t (148 + 15 * t) = a (148 + 15 * t) - 1 := zU_eq
      rw [e9]
      refine ⟨by omega, fun _ => h9.2.1 (by omega), fun h => by omega⟩
    · rw [fTick_ne (by omega)]
      exact h9
  · rw [fTick_ne (by omega)]
    exact zIhold v t t0 t1
  · rw [fTick_ne (by omega)]
    exact zIcoin v t t0 t1
  · rw [fTick_ne (by omega)]
    exact zIton v t g t0 t1 g0 g1
  · rw [fTick_ne (by omega), fTons_congr (zEq8_of (a := a) (fun k k0 k1 => fTick_ne (by omega)))]
    exact zIfull v t t0 t1
theorem zIv_land {a : Int → Int} {s : Int} (v : zIv a) (h0 : 0 ≤ s) (h1 : s < a 3) (hs : a (148 + 15 * s) = 1) : zIv (fLand (fTick a s) s) := by
  have h4 := (zIships v).2
  have g : ∀ k, k ≠ 146 + 15 * s → k ≠ 147 + 15 * s → k ≠ 148 + 15 * s → fLand (fTick a s) s k = a k := fun k k1 k2 k3 => by rw [fLand_ne k1 k2, fTick_ne k3]
  refine zIv_ships v (fun k hk => g k (by omega) (by omega) (by omega)) (fun t t0 t1 => ?_) (fun t t0 t1 => ?_) (fun t t0 t1 => ?_) (fun t i t0 t1 i0 i1 => ?_) (fun t t0 t1 => ?_)
  · have h9 := zIsea v t t0 t1
    by_cases e : t = s
    · subst e
      have e1 : fLand (fTick a t) t (147 + 15 * t) = -1 := zU_eq
      have e2 : fLand (fTick a t) t (146 + 15 * t) = a (147 + 15 * t) := by
        unfold fLand
        rw [zU_ne (by omega), zU_eq, fTick_ne (by omega)]
      have e3 : fLand (fTick a t) t (148 + 15 * t) = a (148 + 15 * t) - 1 := by
        rw [fLand_ne (by omega) (by omega)]
        exact zU_eq
      rw [e1, e2, e3]
      have h8 := h9.2.1 (by omega)
      exact ⟨by omega, fun h => by omega, fun _ => ⟨rfl, h8.2.1, h8.2.2⟩⟩
    · rw [g _ (by omega) (by omega) (by omega), g _ (by omega) (by omega) (by omega), g _ (by omega) (by omega) (by omega)]
      exact h9
  · rw [g _ (by omega) (by omega) (by omega)]
    exact zIhold v t t0 t1
  · rw [g _ (by omega) (by omega) (by omega)]
    exact zIcoin v t t0 t1
  · rw [g _ (by omega) (by omega) (by omega)]
    exact zIton v t i t0 t1 i0 i1
  · rw [g _ (by omega) (by omega) (by omega), fTons_congr (zEq8_of (a := a) (fun k k0 k1 => g k (by omega) (by omega) (by omega)))]
    exact zIfull v t t0 t1
theorem fDue_b {b : Int → Int} {s n : Int} (v : zIv b) (h0 : 0 ≤ s) (h1 : s < b 3) (n0 : 0 ≤ n) (n1 : n < b 0) : (0 ≤ fDue b s n ∧ fDue b s n ≤ b (150 + 15 * s)) ∧ 0 ≤ b (9 + 4 * n) * fTons (fLd b s) ∧ b (9 + 4 * n) * fTons (fLd b s) ≤ 9 * 8000 := by
  have h4 := (zIships v).2
  have hb := fTons_b (zLd_iv v h0 (by omega))
  have hn := (zInat v n n0 n1).2.1
  have hc := zIcoin v s h0 h1
  have m1 := zMul_b (x := b (9 + 4 * n)) (y := fTons (fLd b s)) (m := 9) (k := 8000) hn.1 hn.2 hb.1 hb.2 (by omega)
  unfold fDue
  omega
theorem fDuty_ne {b : Int → Int} {s n k : Int} (h1 : k ≠ 150 + 15 * s) (h2 : k ≠ 152 + 15 * s) : fDuty b s n k = b k := by
  unfold fDuty
  rw [zU_ne h2, zU_ne h1]
theorem zIv_duty {b : Int → Int} {s n : Int} (v : zIv b) (h0 : 0 ≤ s) (h1 : s < b 3) (n0 : 0 ≤ n) (n1 : n < b 0) : zIv (fDuty b s n) := by
  have h4 := (zIships v).2
  have hd := fDue_b v h0 h1 n0 n1
  refine zIv_money v (fun k hk => fDuty_ne (by omega) (by omega)) (fun t i t0 t1 i0 i1 i2 i3 i4 => fDuty_ne (by omega) (by omega)) (fun t t0 t1 => ?_)
  have hc := zIcoin v t t0 t1
  by_cases e : t = s
  · subst e
    have e9 : fDuty b t n (150 + 15 * t) = b (150 + 15 * t) - fDue b t n := by
      unfold fDuty
      rw [zU_ne (by omega), zU_eq]
    rw [e9]
    omega
  · rw [fDuty_ne (by omega) (by omega)]
    exact hc
