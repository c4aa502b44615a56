/-! ===== BOTH SIDES JOINED, 3: trays ===== -/
set_option maxRecDepth 100000
def zRow (h : zHp) (b : Nat) : Prop := ∃ t : Int, 0 ≤ t ∧ t < 4 ∧ gR h (67 + t.toNat) 0 = some b
theorem zRow_f {h : zHp} {a nm : Int → Int} (R : zRl h a nm) {b : Nat} (q : zRow h b) : 129 ≤ b ∧ b < gN h ∧ 1 ≤ (gK h b).1 ∧ (gK h b).1 ≤ 4 := by
  obtain ⟨t, t0, t1, e⟩ := q
  rcases (zRtr R).1 t t0 t1 with ⟨-, q⟩ | ⟨r, r1, r2, r3, r4, r5, r6, -⟩
  · rw [q] at e
    cases e
  · rw [r1] at e
    obtain rfl := Option.some.inj e
    refine ⟨r4, r5, ?_⟩
    rw [r6]
    show 1 ≤ zKd (gI h 116 t) ∧ zKd (gI h 116 t) ≤ 4
    unfold zKd
    (repeat' split) <;> omega
theorem zR_gen {h h' : zHp} {a nm : Int → Int} (R : zRl h a nm) (hN : gN h ≤ gN h') (hK : ∀ b, b < gN h → gK h' b = gK h b) (hF : ∀ b, gN h' ≤ b → gK h' b = (1000, 0)) (hR : ∀ b, (b < 67 ∨ 70 < b) → b < gN h → gR h' b = gR h b) (hI : ∀ b, b < gN h → b ≠ 65 → (b < 71 ∨ 73 < b) → b ≠ 112 → b ≠ 113 → b ≠ 116 → b ≠ 117 → (b < 119 ∨ 128 < b) → ¬ zRow h b → gI h' b = gI h b) (hJ : ∀ b, b < gN h → b ≠ 65 → b ≠ 113 → b ≠ 118 → ¬ zRow h b → gJ h' b = gJ h b) (st : gI h' 65 7 = gI h' 113 2) (up : gJ h' 65 8 = gJ h' 113 3 ∧ gJ h' 65 9 = gJ h' 113 4) (td : gI h' 65 2 = gI h' 113 10 ∧ 0 ≤ gI h' 113 10 ∧ gI h' 113 10 ≤ 900) (tp : ∀ k, 0 ≤ k → k < gI h' 113 10 → gI h' 71 k = gI h' 119 k) (fa : gI h' 65 3 = gI h' 113 16 ∧ gI h' 65 4 = gI h' 113 17) (la : ∀ j, 0 ≤ j → j < 5 → gI h' 112 j = gI h' 128 j) (li : gI h' 65 24 = gI h' 113 40) (mm : gI h' 65 12 = gI h 65 12 ∧ gI h' 113 41 = gI h 113 41) (tr : zTr h' (gI h' 116) (gI h' 117) (gJ h' 118)) (m4 : ∀ (m t : Int) (H r : Nat), 0 ≤ m → m < 3 → 0 ≤ t → t < 4 → gR h 91 m = some H → gR h' (67 + t.toNat) 0 = some r → r < H ∨ H + 16 < r) : zRl h' a nm := by
  have M := zRmk R
  have X := zRxk R
  have g0 := (zRfr R).1
  have nr : ∀ b, b < 129 → ¬ zRow h b := fun b hb q => by
    have := (zRow_f R q).1
    omega
  have kk : ∀ b, (gK h b).1 < 1000 → gK h' b = gK h b := fun b hb => hK b (zRl_k R hb)
  have o8 : ∀ c, (gK h c).1 = 0 → 8 ≤ (gK h c).2 → c < gN h ∧ c ≠ 65 ∧ (c < 71 ∨ 73 < c) ∧ c ≠ 112 ∧ c ≠ 113 ∧ c ≠ 116 ∧ c ≠ 117 ∧ c ≠ 118 ∧ (c < 119 ∨ 128 < c) ∧ ¬ zRow h c := fun c c1 c2 => by
    have q := zK8 R c1 c2
    refine ⟨zRl_k R (by rw [c1]; decide), q.1, ?_, ?_, by omega, by omega, by omega, by omega, ?_, fun qr => ?_⟩
    · by_cases e : c < 71 ∨ 73 < c
      · exact e
      · exfalso
        have e : c = 71 ∨ c = 72 ∨ c = 73 := by omega
        obtain rfl | rfl | rfl := e
        · rw [zXk1 X] at c1; exact absurd c1 (by decide)
        · rw [zXk5 X] at c2; exact absurd c2 (by decide)
        · rw [zXk6 X] at c2; exact absurd c2 (by decide)
    · intro e
      rw [e, zXk23 X] at c1
      exact absurd c1 (by decide)
    · by_cases e : c = 128
      · rw [e, zMk39 M] at c1
        exact absurd c1 (by decide)
      · omega
    · have := (zRow_f R qr).2.2.1
      omega
  have wk : ∀ {w : Nat}, w < gN h → (w = 75 ∨ w = 92 ∨ 128 < w) → zWk h w → zWk h' w := fun {w} w0 w1 W => by
    have hk9 : ∀ b, (gK h b).1 < 1000 → gK h' b = gK h b := kk
    have hr9 := hR w (by omega) w0
    exact ⟨by rw [hk9 _ (by rw [zWkk W]; decide)]; exact zWkk W, by rw [hr9]; exact zWr10 W, by rw [hk9 _ (by rw [zWk10 W]; decide)]; exact zWk10 W, by rw [hr9]; exact zWr11 W, by rw [hk9 _ (by rw [zWk11 W]; decide)]; exact zWk11 W, by rw [hr9]; exact zWr12 W, by rw [hk9 _ (by rw [zWk12 W]; decide)]; exact zWk12 W, by rw [hr9]; exact zWr13 W, by rw [hk9 _ (by rw [zWk13 W]; decide)]; exact zWk13 W, by rw [hr9]; exact zWr14 W, by rw [hk9 _ (by rw [zWk14 W]; decide)]; exact zWk14 W, by rw [hr9]; exact zWr15 W, by rw [hk9 _ (by rw [zWk15 W]; decide)]; exact zWk15 W, by rw [hr9]; exact zWr16 W, by rw [hk9 _ (by rw [zWk16 W]; decide)]; exact zWk16 W, by rw [hr9]; exact zWr17 W, by rw [hk9 _ (by rw [zWk17 W]; decide)]; exact zWk17 W, by rw [hr9]; exact zWr18 W, by rw [hk9 _ (by rw [zWk18 W]; decide)]; exact zWk18 W, by rw [hr9]; exact zWr19 W, by rw [hk9 _ (by rw [zWk19 W]; decide)]; exact zWk19 W, by rw [hr9]; exact zWr20 W, by rw [hk9 _ (by rw [zWk20 W]; decide)]; exact zWk20 W⟩
  have wp : ∀ {w : Nat} {c n : Int → Int}, w < gN h → (w = 75 ∨ 128 < w) → (∀ b, w ≤ b → b ≤ w + 15 → ¬ zRow h b) → zPw h w c n → zPw h' w c n := fun {w c n} w0 w1 w2 Pc =>
    zPw_fr Pc kk (fun b hb => hR b (by
      rcases hb with hb | hb
      · omega
      · by_cases e : b < 67 ∨ 70 < b
        · exact e
        · exfalso
          have e : b = 67 ∨ b = 68 ∨ b = 69 ∨ b = 70 := by omega
          obtain rfl | rfl | rfl | rfl := e
          · rw [zXu0 X] at hb; exact absurd hb.1 (by decide)
          · rw [zXu1 X] at hb; exact absurd hb.1 (by decide)
          · rw [zXu2 X] at hb; exact absurd hb.1 (by decide)
          · rw [zXu3 X] at hb; exact absurd hb.1 (by decide)) (by
      rcases hb with hb | hb
      · omega
      · exact zRl_k R (by omega))) (fun b b1 b2 _ => by
      obtain ⟨q1, q2, -, -, q5, -, -, q8, -, q10⟩ := o8 b b1 b2
      exact hJ b q1 q2 q5 q8 q10) (fun b hb => by
      rcases hb with hb | hb
      · have hbk : (gK h b).1 < 1000 := by
          have W := Pc.2.1
          have hx : b = w ∨ b = w + 5 ∨ b = w + 6 ∨ b = w + 7 ∨ b = w + 8 ∨ b = w + 9 ∨ b = w + 10 ∨ b = w + 11 ∨ b = w + 12 ∨ b = w + 13 ∨ b = w + 14 ∨ b = w + 15 := by omega
          obtain rfl | rfl | rfl | rfl | rfl | rfl | rfl | rfl | rfl | rfl | rfl | rfl := hx
          · rw [zWkk W]; decide
          · rw [zWk10 W]; decide
          · rw [zWk11 W]; decide
          · rw [zWk12 W]; decide
          · rw [zWk13 W]; decide
          · rw [zWk14 W]; decide
          · rw [zWk15 W]; decide
          · rw [zWk16 W]; decide
          · rw [zWk17 W]; decide
          · rw [zWk18 W]; decide
          · rw [zWk19 W]; decide
          · rw [zWk20 W]; decide
        exact hI b (zRl_k R hbk) (by omega) (by omega) (by omega) (by omega) (by omega) (by omega) (by omega) (w2 b hb.1 hb.2.1)
      · obtain ⟨q1, q2, q3, q4, q5, q6, q7, -, q9, q10⟩ := o8 b hb.1 hb.2.1
        exact hI b q1 q2 q3 q4 q5 q6 q7 q9 q10)
  have vof : ∀ {o : Option Nat} {c : Int → Int}, zVo h o c → zVo h' o c := fun {o c} Q => zVo_fr kk (fun b hb => hR b (by
      by_cases e : b < 67 ∨ 70 < b
      · exact e
      · exfalso
        have e : b = 67 ∨ b = 68 ∨ b = 69 ∨ b = 70 := by omega
        obtain rfl | rfl | rfl | rfl := e
        · rw [zXu0 X] at hb; exact absurd hb (by decide)
        · rw [zXu1 X] at hb; exact absurd hb (by decide)
        · rw [zXu2 X] at hb; exact absurd hb (by decide)
        · rw [zXu3 X] at hb; exact absurd hb (by decide)) (zRl_k R (by omega))) (fun b b1 b2 _ => by
      obtain ⟨q1, q2, q3, q4, q5, q6, q7, -, q9, q10⟩ := o8 b b1 (by omega)
      exact hI b q1 q2 q3 q4 q5 q6 q7 q9 q10) zSr_rf Q
  refine ⟨?_, ?_, wk (by omega) (by omega) (zRwk R), ?_, ?_, wp (by omega) (Or.inl rfl) (fun b _ _ => nr b (by omega)) (zRpw R), zRiv R, st, up, td, tp, fa, tr, la, li, ?_, ?_, ?_, ?_, ?_, Nat.le_trans g0 hN, hF⟩
  · have q := M
    unfold zMk at q ⊢
    simp only [hK 113 (by omega), hK 114 (by omega), hK 115 (by omega), hK 116 (by omega), hK 117 (by omega), hK 118 (by omega), hK 119 (by omega), hK 120 (by omega), hK 121 (by omega), hK 122 (by omega), hK 123 (by omega), hK 124 (by omega), hK 125 (by omega), hK 126 (by omega), hK 127 (by omega), hK 128 (by omega), hR 113 (by omega) (by omega)]
    exact q
  · have q := X
    unfold zXk at q ⊢
    simp only [hK 65 (by omega), hK 66 (by omega), hK 67 (by omega), hK 68 (by omega), hK 69 (by omega), hK 70 (by omega), hK 71 (by omega), hK 72 (by omega), hK 73 (by omega), hK 74 (by omega), hK 91 (by omega), hK 108 (by omega), hK 109 (by omega), hK 110 (by omega), hK 111 (by omega), hK 112 (by omega), hR 65 (by omega) (by omega), hR 66 (by omega) (by omega), hR 74 (by omega) (by omega)]
    exact q
  · rw [hI 114 (by omega) (by decide) (by decide) (by decide) (by decide) (by decide) (by decide) (by decide) (nr _ (by decide))]
    exact zRat R
  · rw [hJ 115 (by omega) (by decide) (by decide) (by decide) (nr _ (by decide))]
    exact zRnm R
  · rw [mm.1, mm.2]
    exact zRmm R
  · rw [mm.2]
    obtain ⟨m1, m2, m3, m5⟩ := zRms R
    have e91 := hR 91 (by omega) (by omega)
    refine ⟨m1, fun m m0 m9 => ?_, by rw [e91]; exact m3, by rw [e91]; exact ⟨m4, m5.2⟩⟩
    rw [e91]
    rcases m2 m m0 m9 with q | ⟨H, q1, q2, q3, q4, q5, q6, q7, q8⟩
    · exact Or.inl q
    · refine Or.inr ⟨H, q1, q2, by omega, by rw [hK _ (by omega)]; exact q4, by rw [hR H (by omega) (by omega)]; exact q5, wk (by omega) (by omega) q6, fun i hi => by rw [hK _ (by omega)]; exact q7 i hi, fun hm => ?_⟩
      obtain ⟨z1, z2, z3⟩ := q8 hm
      rw [hR H (by omega) (by omega)]
      refine ⟨wp (by omega) (Or.inr (by omega)) (fun b b1 b2 qr => ?_) z1, z2, vof z3⟩
      obtain ⟨t, t0, t1, e⟩ := qr
      have := m5.1 m t H b m0 m9 t0 t1 q1 e
      omega
  · rw [hR 74 (by omega) (by omega)]
    exact vof (zRvo R)
  · intro c c0 c1
    rw [hK _ (by omega), hR _ (by omega) (by omega), hI c (by omega) (by omega) (by omega) (by omega) (by omega) (by omega) (by omega) (by omega) (nr _ (by omega))]
    exact zRtx R c c0 c1
  · intro i hi
    rw [hK _ (by omega), hK _ (by omega)]
    exact zRkx R i hi
theorem zRow_n {h : zHp} {a nm : Int → Int} (R : zRl h a nm) {b : Nat} (hb : b < 129) : ¬ zRow h b := fun q => by
  have := (zRow_f R q).1
  omega
/-- only a tray's row changes, and what the reference has of it -/
theorem zR_rows {h h' : zHp} {a nm : Int → Int} (R : zRl h a nm) (e1 : gN h' = gN h) (hK : gK h' = gK h) (hR : gR h' = gR h) (hI : ∀ b, b ≠ 65 → (b < 71 ∨ 73 < b) → b ≠ 113 → ¬ zRow h b → gI h' b = gI h b) (hJ : ∀ b, b ≠ 118 → ¬ zRow h b → gJ h' b = gJ h b) (i65 : ∀ j, j ≠ 7 → gI h' 65 j = gI h 65 j) (i113 : ∀ j, j ≠ 2 → gI h' 113 j = gI h 113 j) (i71 : gI h' 71 = gI h 71) (st : gI h' 65 7 = gI h' 113 2) (rw9 : ∀ t, 0 ≤ t → t < 4 → ∀ r, gR h (67 + t.toNat) 0 = some r → ∀ k, 0 ≤ k → k < gI h 117 t → zTv h' (gI h 116 t) r k = gJ h' 118 (60 * t + k)) : zRl h' a nm := by
  have n := fun {b : Nat} (hb : b < 129) => zRow_n R hb
  have tr := zRtr R
  refine zR_gen R (by omega) (fun b _ => by rw [hK]) (fun b hb => by rw [hK]; exact (zRfr R).2 b (by omega)) (fun b _ _ => by rw [hR]) (fun b _ b1 b2 _ b4 _ _ _ b8 => hI b b1 b2 b4 b8) (fun b _ _ _ b4 b5 => hJ b b4 b5) st ?_ ?_ ?_ ?_ ?_ ?_ ⟨?_, ?_⟩ ?_ (fun m t H r m0 m1 t0 t1 q1 q2 => ?_)
  · rw [hJ 65 (by decide) (n (by decide)), hJ 113 (by decide) (n (by decide))]
    exact zRup R
  · rw [i65 2 (by decide), i113 10 (by decide)]
    exact zRtd R
  · rw [i113 10 (by decide), i71, hI 119 (by decide) (by decide) (by decide) (n (by decide))]
    exact zRtp R
  · rw [i65 3 (by decide), i65 4 (by decide), i113 16 (by decide), i113 17 (by decide)]
    exact zRfa R
  · rw [hI 112 (by decide) (by decide) (by decide) (n (by decide)), hI 128 (by decide) (by decide) (by decide) (n (by decide))]
    exact zRla R
  · rw [i65 24 (by decide), i113 40 (by decide)]
    exact zRli R
  · exact i65 12 (by decide)
  · exact i113 41 (by decide)
  · rw [hI 116 (by decide) (by decide) (by decide) (n (by decide)), hI 117 (by decide) (by decide) (by decide) (n (by decide))]
    unfold zTr
    rw [hR]
    refine ⟨fun t t0 t1 => ?_, tr.2⟩
    rcases tr.1 t t0 t1 with q | ⟨r, r1, r2, r3, r4, r5, r6, r7⟩
    · exact Or.inl q
    · exact Or.inr ⟨r, r1, r2, r3, r4, by omega, by rw [hK]; exact r6, rw9 t t0 t1 r r1⟩
  · rw [hR] at q2
    exact (zRms R).2.2.2.1 m t H r m0 m1 t0 t1 q1 q2
section J3
variable {d : Nat}
/-- what a tray is, from the relation -/
theorem zRtt {h : zHp} {a nm : Int → Int} (R : zRl h a nm) {t : Int} (t0 : 0 ≤ t) (t1 : t < 4) : (gI h 117 t = -1 ∧ gR h (67 + t.toNat) 0 = none) ∨ ∃ r, gR h (67 + t.toNat) 0 = some r ∧ gI h 117 t ≠ -1 ∧ zTo h (gI h 116 t) (gI h 117 t) (gJ h 118) r t := by
  rcases (zRtr R).1 t t0 t1 with q | ⟨r, r1, r2⟩
  · exact Or.inl q
  · exact Or.inr ⟨r, r1, by have := r2.1; omega, r2⟩
/-- a refusal by the status alone, both sides -/
theorem zR_st {h : zHp} {a nm : Int → Int} {w y : Int} (R : zRl h a nm) : zRl (sI (sI (sI h 73 6 y) 65 7 w) 113 2 w) a nm := by
  have i : ∀ b, b ≠ 65 → b ≠ 73 → b ≠ 113 → gI (sI (sI (sI h 73 6 y) 65 7 w) 113 2 w) b = gI h b := fun b b1 b2 b3 => by rw [gI_sI_ne b3, gI_sI_ne b1, gI_sI_ne b2]
  have i65 : ∀ j, j ≠ 7 → gI (sI (sI (sI h 73 6 y) 65 7 w) 113 2 w) 65 j = gI h 65 j := fun j hj => by rw [gI_sI_ne (by decide), gI_sI_eq, zU_ne hj, gI_sI_ne (by decide)]
  have i113 : ∀ j, j ≠ 2 → gI (sI (sI (sI h 73 6 y) 65 7 w) 113 2 w) 113 j = gI h 113 j := fun j hj => by rw [gI_sI_eq, zU_ne hj, gI_sI_ne (by decide), gI_sI_ne (by decide)]
  refine zR_keep R rfl rfl rfl (fun b _ _ => rfl) (fun b b1 b2 _ b4 _ => i b b1 (by omega) b4) ?_ (zRup (h := h) R) ?_ ?_ ?_ ?_ ?_ ⟨i65 12 (by decide), i113 41 (by decide)⟩
  · rw [gI_sI_eq, zU_eq, gI_sI_ne (by decide), gI_sI_eq, zU_eq]
  · rw [i65 2 (by decide), i113 10 (by decide)]
    exact zRtd R
  · rw [i113 10 (by decide), i 71 (by decide) (by decide) (by decide), i 119 (by decide) (by decide) (by decide)]
    exact zRtp R
  · rw [i65 3 (by decide), i65 4 (by decide), i113 16 (by decide), i113 17 (by decide)]
    exact zRfa R
  · rw [i 112 (by decide) (by decide) (by decide), i 128 (by decide) (by decide) (by decide)]
    exact zRla R
  · rw [i65 24 (by decide), i113 40 (by decide)]
    exact zRli R
theorem zR_st0 {h : zHp} {a nm : Int → Int} {w : Int} (R : zRl h a nm) : zRl (sI (sI h 65 7 w) 113 2 w) a nm := by
  have h9 := zR_st (w := w) (y := gI h 73 6) R
  rw [sI_id] at h9
  exact h9
/-- the counts alone -/
theorem zR_tick {h : zHp} {a nm : Int → Int} {c z : Nat} (R : zRl h a nm) : zRl (gTick h c z) a nm := zR_keep R rfl rfl rfl (fun b _ _ => rfl) (fun b _ _ _ _ _ => rfl) (zRst (h := h) R) (zRup (h := h) R) (zRtd (h := h) R) (zRtp (h := h) R) (zRfa (h := h) R) (zRla (h := h) R) (zRli (h := h) R) ⟨rfl, rfl⟩
end J3
