/-! ===== THE BOUNDS, kept by what is done ===== -/
set_option maxRecDepth 100000
theorem fTons_8 {f : Int → Int} : fTons f = f 0 + f 1 + f 2 + f 3 + f 4 + f 5 + f 6 + f 7 := by
  have e : fTons f = 0 + f ((0 : Nat) : Int) + f ((1 : Nat) : Int) + f ((2 : Nat) : Int) + f ((3 : Nat) : Int) + f ((4 : Nat) : Int) + f ((5 : Nat) : Int) + f ((6 : Nat) : Int) + f ((7 : Nat) : Int) := rfl
  rw [e]
  show 0 + f 0 + f 1 + f 2 + f 3 + f 4 + f 5 + f 6 + f 7 = _
  rw [Int.zero_add]
theorem fTons_dif {f g : Int → Int} {i d : Int} (h0 : 0 ≤ i) (h8 : i < 8) (h : ∀ k, k ≠ i → 0 ≤ k → k < 8 → g k = f k) (hg : g i = f i + d) : fTons g = fTons f + d := by
  rw [fTons_8, fTons_8]
  have hi : i = 0 ∨ i = 1 ∨ i = 2 ∨ i = 3 ∨ i = 4 ∨ i = 5 ∨ i = 6 ∨ i = 7 := by omega
  have q : ∀ k, k ≠ i → 0 ≤ k → k < 8 → g k = f k := h
  obtain rfl | rfl | rfl | rfl | rfl | rfl | rfl | rfl := hi
  · rw [hg, q 1 (by decide) (by decide) (by decide), q 2 (by decide) (by decide) (by decide), q 3 (by decide) (by decide) (by decide), q 4 (by decide) (by decide) (by decide), q 5 (by decide) (by decide) (by decide), q 6 (by decide) (by decide) (by decide), q 7 (by decide) (by decide) (by decide)]
    omega
  · rw [hg, q 0 (by decide) (by decide) (by decide), q 2 (by decide) (by decide) (by decide), q 3 (by decide) (by decide) (by decide), q 4 (by decide) (by decide) (by decide), q 5 (by decide) (by decide) (by decide), q 6 (by decide) (by decide) (by decide), q 7 (by decide) (by decide) (by decide)]
    omega
  · rw [hg, q 0 (by decide) (by decide) (by decide), q 1 (by decide) (by decide) (by decide), q 3 (by decide) (by decide) (by decide), q 4 (by decide) (by decide) (by decide), q 5 (by decide) (by decide) (by decide), q 6 (by decide) (by decide) (by decide), q 7 (by decide) (by decide) (by decide)]
    omega
  · rw [hg, q 0 (by decide) (by decide) (by decide), q 1 (by decide) (by decide) (by decide), q 2 (by decide) (by decide) (by decide), q 4 (by decide) (by decide) (by decide), q 5 (by decide) (by decide) (by decide), q 6 (by decide) (by decide) (by decide), q 7 (by decide) (by decide) (by decide)]
    omega
  · rw [hg, q 0 (by decide) (by decide) (by decide), q 1 (by decide) (by decide) (by decide), q 2 (by decide) (by decide) (by decide), q 3 (by decide) (by decide) (by decide), q 5 (by decide) (by decide) (by decide), q 6 (by decide) (by decide) (by decide), q 7 (by decide) (by decide) (by decide)]
    omega
  · rw [hg, q 0 (by decide) (by decide) (by decide), q 1 (by decide) (by decide) (by decide), q 2 (by decide) (by decide) (by decide), q 3 (by decide) (by decide) (by decide), q 4 (by decide) (by decide) (by decide), q 6 (by decide) (by decide) (by decide), q 7 (by decide) (by decide) (by decide)]
    omega
  · rw [hg, q 0 (by decide) (by decide) (by decide), q 1 (by decide) (by decide) (by decide), q 2 (by decide) (by decide) (by decide), q 3 (by decide) (by decide) (by decide), q 4 (by decide) (by decide) (by decide), q 5 (by decide) (by decide) (by decide), q 7 (by decide) (by decide) (by decide)]
    omega
  · rw [hg, q 0 (by decide) (by decide) (by decide), q 1 (by decide) (by decide) (by decide), q 2 (by decide) (by decide) (by decide), q 3 (by decide) (by decide) (by decide), q 4 (by decide) (by decide) (by decide), q 5 (by decide) (by decide) (by decide), q 6 (by decide) (by decide) (by decide)]
    omega
theorem zIv_head {a b : Int → Int} (v : zIv a) (e : ∀ k, k ≠ 4 → (k < 11 ∨ 31 < k ∨ k % 4 ≠ 3) → (k < 57 ∨ 146 ≤ k ∨ 8 ≤ (k - 57) % 15) → b k = a k) (c4 : 0 ≤ b 4 ∧ b 4 ≤ 2) (c7 : ∀ n, 0 ≤ n → n < 6 → 0 ≤ b (11 + 4 * n) ∧ b (11 + 4 * n) < 64) (c10 : ∀ p g, 0 ≤ p → p < 6 → 0 ≤ g → g < 8 → 0 ≤ b (57 + 15 * p + g) ∧ b (57 + 15 * p + g) ≤ 99) : zIv b := by
  obtain ⟨v1, v2, v3, v4, v5, v6, v7, v8, v9, v10, v11, v12, v13, v14, v15, v16⟩ := v
  have e0 := e 0 (by omega) (by omega) (by omega)
  have e1 := e 1 (by omega) (by omega) (by omega)
  have e2 := e 2 (by omega) (by omega) (by omega)
  have e3 := e 3 (by omega) (by omega) (by omega)
  have e5 := e 5 (by omega) (by omega) (by omega)
  refine ⟨?_, by rw [e2]; exact v2, by rw [e3]; exact v3, c4, by rw [e5]; exact v5, fun n n0 n1 => ?_, c7, fun g g0 g1 => ?_, fun p p0 p1 => ?_, c10, fun p q p0 p1 q0 q1 => ?_, fun s s0 s1 => ?_, fun s s0 s1 => ?_, fun s s0 s1 => ?_, fun s g s0 s1 g0 g1 => ?_, fun s s0 s1 => ?_⟩
  · obtain ⟨w1, w2, w3, w4⟩ := v1
    exact ⟨by rw [e0]; exact w1, by rw [e1]; exact w2, fun g g0 g1 => by rw [e _ (by omega) (by omega) (by omega)]; exact w3 g g0 g1, fun g g0 g1 => by rw [e _ (by omega) (by omega) (by omega)]; exact w4 g g0 g1⟩
  · rw [e0] at n1
    have v9 := v1.1
    rw [e _ (by omega) (by omega) (by omega), e _ (by omega) (by omega) (by omega), e _ (by omega) (by omega) (by omega)]
    exact v6 n n0 n1
  · rw [e1] at g1
    have v9 := v1.2.1
    rw [e _ (by omega) (by omega) (by omega), e0]
    exact v8 g g0 g1
  · rw [e2] at p1
    rw [e _ (by omega) (by omega) (by omega), e0]
    exact v9 p p0 p1
  · rw [e _ (by omega) (by omega) (by omega), e _ (by omega) (by omega) (by omega)]
    exact v11 p q p0 p1 q0 q1
  · rw [e3] at s1
    rw [e2, e _ (by omega) (by omega) (by omega), e _ (by omega) (by omega) (by omega), e _ (by omega) (by omega) (by omega)]
    exact v12 s s0 s1
  · rw [e3] at s1
    rw [e _ (by omega) (by omega) (by omega)]
    exact v13 s s0 s1
  · rw [e3] at s1
    rw [e _ (by omega) (by omega) (by omega)]
    exact v14 s s0 s1
  · rw [e1, e _ (by omega) (by omega) (by omega)]
    exact v15 s g s0 s1 g0 g1
  · rw [e3] at s1
    rw [e _ (by omega) (by omega) (by omega), fTons_congr (zEq8_of (a := a) (fun k k0 k1 => e k (by omega) (by omega) (by omega)))]
    exact v16 s s0 s1
theorem zIv_rule {a : Int → Int} {x : Int} (v : zIv a) (h0 : 0 ≤ x) (h1 : x ≤ 2) : zIv (zU a 4 x) :=
  zIv_head v (fun k hk _ _ => zU_ne hk) (by rw [zU_eq]; exact ⟨h0, h1⟩) (fun n n0 n1 => by rw [zU_ne (by omega)]; exact zIwar v n n0 n1) (fun p g p0 p1 g0 g1 => by rw [zU_ne (by omega)]; exact zIpr v p g p0 p1 g0 g1)
theorem zIv_war {a : Int → Int} {n x : Int} (v : zIv a) (n0 : 0 ≤ n) (n1 : n < 6) (h0 : 0 ≤ x) (h1 : x < 64) : zIv (zU a (11 + 4 * n) x) :=
  zIv_head v (fun k hk h7 _ => zU_ne (by omega)) (by rw [zU_ne (by omega)]; exact zIrule v) (fun m m0 m1 => by
    by_cases e : m = n
    · rw [e, zU_eq]
      exact ⟨h0, h1⟩
    · rw [zU_ne (by omega)]
      exact zIwar v m m0 m1) (fun p g p0 p1 g0 g1 => by rw [zU_ne (by omega)]; exact zIpr v p g p0 p1 g0 g1)
theorem zIv_price {a : Int → Int} {p g x : Int} (v : zIv a) (p0 : 0 ≤ p) (p1 : p < 6) (g0 : 0 ≤ g) (g1 : g < 8) (h0 : 0 ≤ x) (h1 : x ≤ 99) : zIv (zU a (57 + 15 * p + g) x) :=
  zIv_head v (fun k hk _ h7 => zU_ne (by omega)) (by rw [zU_ne (by omega)]; exact zIrule v) (fun m m0 m1 => by rw [zU_ne (by omega)]; exact zIwar v m m0 m1) (fun q i q0 q1 i0 i1 => by
    by_cases e : 57 + 15 * q + i = 57 + 15 * p + g
    · rw [e, zU_eq]
      exact ⟨h0, h1⟩
    · rw [zU_ne e]
      exact zIpr v q i q0 q1 i0 i1)
theorem zIv_coin {a : Int → Int} {s x : Int} (v : zIv a) (s0 : 0 ≤ s) (h0 : 0 ≤ x) (h1 : x ≤ 9999) : zIv (zU a (150 + 15 * s) x) :=
  zIv_money v (fun k hk => zU_ne (by omega)) (fun t i t0 t1 i0 i1 i4 i5 i6 => zU_ne (by omega)) (fun t t0 t1 => by
    by_cases e : t = s
    · rw [e, zU_eq]
      exact ⟨h0, h1⟩
    · rw [zU_ne (by omega)]
      exact zIcoin v t t0 t1)
/-- one load of one ship made d tons more -/
theorem zIv_load {a : Int → Int} {s g d : Int} (v : zIv a) (s0 : 0 ≤ s) (s1 : s < a 3) (g0 : 0 ≤ g) (g1 : g < a 1) (h0 : 0 ≤ a (153 + 15 * s + g) + d) (h1 : fTons (fLd a s) + d ≤ a (149 + 15 * s)) : zIv (zU a (153 + 15 * s + g) (a (153 + 15 * s + g) + d)) := by
  have b1 := (zIgd v).2.1
  have b3 := zIships v
  have hf : fTons (fLd (zU a (153 + 15 * s + g) (a (153 + 15 * s + g) + d)) s) = fTons (fLd a s) + d := fTons_dif g0 (by omega) (fun k hk k0 k1 => zU_ne (by omega)) zU_eq
  have hh := zIhold v s s0 s1
  have h6 : a (153 + 15 * s + g) + d ≤ 60 := by
    have q : a (153 + 15 * s + g) + d ≤ fTons (fLd (zU a (153 + 15 * s + g) (a (153 + 15 * s + g) + d)) s) := by
      have u : ∀ k, 0 ≤ k → k < 8 → 0 ≤ fLd (zU a (153 + 15 * s + g) (a (153 + 15 * s + g) + d)) s k := fun k k0 k1 => by
        show 0 ≤ zU a (153 + 15 * s + g) (a (153 + 15 * s + g) + d) (153 + 15 * s + k)
        by_cases e : k = g
        · rw [e, zU_eq]
          exact h0
        · rw [zU_ne (by omega)]
          exact (zIton v s k s0 (by omega) k0 k1).1
      have w : fLd (zU a (153 + 15 * s + g) (a (153 + 15 * s + g) + d)) s g = a (153 + 15 * s + g) + d := zU_eq
      generalize fLd (zU a (153 + 15 * s + g) (a (153 + 15 * s + g) + d)) s = F at u w ⊢
      rw [fTons_8, ← w]
      have u0 := u 0 (by decide) (by decide)
      have u1 := u 1 (by decide) (by decide)
      have u2 := u 2 (by decide) (by decide)
      have u3 := u 3 (by decide) (by decide)
      have u4 := u 4 (by decide) (by decide)
      have u5 := u 5 (by decide) (by decide)
      have u6 := u 6 (by decide) (by decide)
      have u7 := u 7 (by decide) (by decide)
      have hi : g = 0 ∨ g = 1 ∨ g = 2 ∨ g = 3 ∨ g = 4 ∨ g = 5 ∨ g = 6 ∨ g = 7 := by omega
      clear w hf h0 h1
      obtain rfl | rfl | rfl | rfl | rfl | rfl | rfl | rfl := hi <;> omega
    omega
  refine zIv_ships v (fun k hk => zU_ne (by omega)) (fun t t0 t1 => ?_) (fun t t0 t1 => ?_) (fun t t0 t1 => ?_) (fun t i t0 t1 i0 i1 => ?_) (fun t t0 t1 => ?_)
  · rw [zU_ne (by omega), zU_ne (by omega), zU_ne (by omega)]
    exact zIsea v t t0 t1
  · rw [zU_ne (by omega)]
    exact zIhold v t t0 t1
  · rw [zU_ne (by omega)]
    exact zIcoin v t t0 t1
  · by_cases e : 153 + 15 * t + i = 153 + 15 * s + g
    · rw [e, zU_eq]
      exact ⟨h0, h6, fun h9 => by omega⟩
    · rw [zU_ne e]
      exact zIton v t i t0 t1 i0 i1
  · rw [zU_ne (by omega)]
    by_cases e : t = s
    · rw [e, hf]
      exact h1
    · rw [fTons_congr (zEq8_of (a := a) (fun k k0 k1 => zU_ne (by omega)))]
      exact zIfull v t t0 t1
theorem zIv_buy {a : Int → Int} {s g n : Int} (v : zIv a) (hd : oDeal a s g n) (ok : fBuyOk a s g n) : zIv (fBuy a s g n) := by
  obtain ⟨⟨s0, s1⟩, ⟨g0, g1⟩, n0, n1⟩ := hd
  obtain ⟨o1, o2, o3, o4⟩ := ok
  have b1 := (zIgd v).2.1
  have b3 := zIships v
  have ht := zIton v s g s0 (by omega) g0 (by omega)
  obtain ⟨p0, p1, p2⟩ := zAt_b v s0 s1 o1
  have hp := zIpr v _ g p0 p1 g0 (by omega)
  have m9 := zMul_b (x := n) (y := a (57 + 15 * a (146 + 15 * s) + g)) (m := 60) (k := 99) (by omega) n1 hp.1 hp.2 (by omega)
  have hc := zIcoin v s s0 s1
  exact zIv_coin (zIv_load v s0 s1 g0 g1 (by omega) (by omega)) s0 (by omega) (by omega)
theorem zIv_sell {a : Int → Int} {s g n : Int} (v : zIv a) (hd : oDeal a s g n) (ok : fSellOk a s g n) : zIv (fSell a s g n) := by
  obtain ⟨⟨s0, s1⟩, ⟨g0, g1⟩, n0, n1⟩ := hd
  obtain ⟨o1, o2, o3⟩ := ok
  have b1 := (zIgd v).2.1
  have b3 := zIships v
  obtain ⟨p0, p1, p2⟩ := zAt_b v s0 s1 o1
  have hp := zIpr v _ g p0 p1 g0 (by omega)
  have m9 := zMul_b (x := n) (y := a (57 + 15 * a (146 + 15 * s) + g)) (m := 60) (k := 99) (by omega) n1 hp.1 hp.2 (by omega)
  have hc := zIcoin v s s0 s1
  have hf := zIfull v s s0 s1
  exact zIv_coin (zIv_load (d := -n) v s0 s1 g0 g1 (by omega) (by omega)) s0 (by omega) (by omega)
theorem zIv_dump {a : Int → Int} {s g n : Int} (v : zIv a) (hd : oDeal a s g n) (ok : n ≤ a (153 + 15 * s + g)) : zIv (fDump a s g n) := by
  obtain ⟨⟨s0, s1⟩, ⟨g0, g1⟩, n0, n1⟩ := hd
  have hf := zIfull v s s0 s1
  exact zIv_load (d := -n) v s0 s1 g0 g1 (by omega) (by omega)
theorem zIv_sail {a : Int → Int} {s p : Int} (v : zIv a) (s0 : 0 ≤ s) (s1 : s < a 3) (p0 : 0 ≤ p) (p1 : p < a 2) (ok : fSailOk a s p) : zIv (fSail a s p) := by
  obtain ⟨o1, o2, o3⟩ := ok
  have b2 := zIports v
  obtain ⟨q0, q1, q2⟩ := zAt_b v s0 s1 o1
  have hw := zIway v _ p q0 q1 p0 (by omega)
  unfold fSail
  refine zIv_ships v (fun k hk => by rw [zU_ne (by omega), zU_ne (by omega), zU_ne (by omega)]) (fun t t0 t1 => ?_) (fun t t0 t1 => ?_) (fun t t0 t1 => ?_) (fun t i t0 t1 i0 i1 => ?_) (fun t t0 t1 => ?_)
  · by_cases e : t = s
    · subst e
      rw [zU_eq, zU_ne (show 146 + 15 * t ≠ 148 + 15 * t by omega), zU_ne (show 146 + 15 * t ≠ 147 + 15 * t by omega), zU_eq, zU_ne (show 147 + 15 * t ≠ 148 + 15 * t by omega), zU_eq]
      exact ⟨⟨hw.1, hw.2.1⟩, fun _ => ⟨rfl, p0, p1⟩, fun h => absurd h (by omega)⟩
    · rw [zU_ne (by omega), zU_ne (by omega), zU_ne (by omega), zU_ne (by omega), zU_ne (by omega), zU_ne (by omega), zU_ne (by omega), zU_ne (by omega), zU_ne (by omega)]
      exact zIsea v t t0 t1
  · rw [zU_ne (by omega), zU_ne (by omega), zU_ne (by omega)]
    exact zIhold v t t0 t1
  · rw [zU_ne (by omega), zU_ne (by omega), zU_ne (by omega)]
    exact zIcoin v t t0 t1
  · rw [zU_ne (by omega), zU_ne (by omega), zU_ne (by omega)]
    exact zIton v t i t0 t1 i0 i1
  · rw [zU_ne (by omega), zU_ne (by omega), zU_ne (by omega), fTons_congr (zEq8_of (a := a) (fun k k0 k1 => by rw [zU_ne (by omega), zU_ne (by omega), zU_ne (by omega)]))]
    exact zIfull v t t0 t1
