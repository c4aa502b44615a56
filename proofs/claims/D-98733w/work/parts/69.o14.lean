/-! ===== THE RELATION of both sides on one heap ===== -/
set_option maxRecDepth 100000
/-- a voyage's act at p, as the row k of a slot has it -/
def zAc (h : zHp) (a : Int → Int) (p : Nat) (k : Int) : Prop := gK h p = (0, 14) ∧
  ((a (206 + 6 * k) = 19 ∧ gI h p 0 = 0 ∧ gI h p 3 = a (207 + 6 * k) ∧ 1 ≤ a (207 + 6 * k) ∧ a (207 + 6 * k) ≤ 20) ∨
   (20 ≤ a (206 + 6 * k) ∧ a (206 + 6 * k) ≤ 22 ∧ gI h p 0 = a (206 + 6 * k) - 19 ∧ gI h p 1 = a (207 + 6 * k) ∧ gI h p 2 = a (208 + 6 * k) ∧ gI h p 3 = a (209 + 6 * k) ∧ (0 ≤ a (207 + 6 * k) ∧ a (207 + 6 * k) < a 3) ∧ (0 ≤ a (208 + 6 * k) ∧ a (208 + 6 * k) < a 1) ∧ 1 ≤ a (209 + 6 * k) ∧ a (209 + 6 * k) ≤ 60) ∨
   (a (206 + 6 * k) = 23 ∧ gI h p 0 = 4 ∧ gI h p 1 = a (207 + 6 * k) ∧ gI h p 2 = a (208 + 6 * k) ∧ (0 ≤ a (207 + 6 * k) ∧ a (207 + 6 * k) < a 3) ∧ 0 ≤ a (208 + 6 * k) ∧ a (208 + 6 * k) < a 2) ∨
   (a (206 + 6 * k) = 24 ∧ gI h p 0 = 5 ∧ gI h p 1 = a (207 + 6 * k) ∧ 0 ≤ a (207 + 6 * k) ∧ a (207 + 6 * k) < a 3) ∨
   (a (206 + 6 * k) = 28 ∧ gI h p 0 = 6))
/-- a block's head at p, as the row k has it -/
def zBc (h : zHp) (a : Int → Int) (p : Nat) (k : Int) : Prop :=
  (a (206 + 6 * k) = 26 ∧ gK h p = (0, 12) ∧ gI h p 2 = a (207 + 6 * k) ∧ 1 ≤ a (207 + 6 * k) ∧ a (207 + 6 * k) ≤ 99) ∨
  (gK h p = (0, 13) ∧ gI h p 3 = a (207 + 6 * k) ∧ (0 ≤ a (207 + 6 * k) ∧ a (207 + 6 * k) < a 3) ∧
    ((a (206 + 6 * k) = 2529 ∧ gI h p 2 = 0 ∧ gI h p 4 = a (208 + 6 * k) ∧ 0 ≤ a (208 + 6 * k) ∧ a (208 + 6 * k) < a 0) ∨
     (a (206 + 6 * k) = 2530 ∧ gI h p 2 = 1 ∧ gI h p 4 = a (208 + 6 * k) ∧ 0 ≤ a (208 + 6 * k) ∧ a (208 + 6 * k) < a 2) ∨
     (a (206 + 6 * k) = 2518 ∧ gI h p 2 = 2 ∧ gI h p 5 = a (211 + 6 * k) ∧ (a (211 + 6 * k) = 60 ∨ a (211 + 6 * k) = 61 ∨ a (211 + 6 * k) = 62) ∧ gI h p 6 = a (208 + 6 * k) ∧ 0 ≤ a (208 + 6 * k) ∧ a (208 + 6 * k) ≤ 9999)))
/-- the steps from i on of the row of steps at A (so many) are the rows from k up to hi -/
def zSq (h : zHp) (a : Int → Int) : Nat → Nat → Int → Int → Int → Int → Prop
  | 0, _, i, sz, k, hi => i = sz ∧ k = hi
  | f + 1, A, i, sz, k, hi => (i = sz ∧ k = hi) ∨ (0 ≤ i ∧ i < sz ∧ 0 ≤ k ∧ k < hi ∧ ∃ p, gR h A i = some p ∧
      ((zAc h a p k ∧ zSq h a f A (i + 1) sz (k + 1) hi) ∨
       (zBc h a p k ∧ ∃ e A2 s2, a (210 + 6 * k) = e ∧ k < e ∧ e < hi ∧ a (206 + 6 * e) = 27 ∧ a (210 + 6 * e) = k ∧ gR h p 0 = some A2 ∧ (gK h A2).1 = 11 ∧ s2 ≤ (gK h A2).2 ∧ gI h p 1 = s2 ∧ zSq h a f A2 0 s2 (k + 1) e ∧ zSq h a f A (i + 1) sz (e + 1) hi)))
/-- the voyages of a house -/
def zVo (h : zHp) (o : Option Nat) (a : Int → Int) : Prop := (a 6 = -1 ∧ o = none) ∨ (0 ≤ a 6 ∧ a 6 ≤ 60 ∧ ∃ p A s, o = some p ∧ gK h p = (0, 12) ∧ gI h p 2 = 1 ∧ gR h p 0 = some A ∧ (gK h A).1 = 11 ∧ s ≤ (gK h A).2 ∧ gI h p 1 = s ∧ zSq h a 60 A 0 s 0 (a 6))
/-- the places of a slot that voyages are told by -/
def zSr (a b : Int → Int) : Prop := ∀ k, (0 ≤ k ∧ k < 4) ∨ k = 6 ∨ (206 ≤ k ∧ k < 572) → b k = a k
theorem zSr_rf {a : Int → Int} : zSr a a := fun _ _ => rfl
theorem zAc_fr {h h' : zHp} {a b : Int → Int} {p : Nat} {k : Int} (k0 : 0 ≤ k) (k9 : k < 60) (hk : ∀ b, (gK h b).1 < 1000 → gK h' b = gK h b) (hi : ∀ b, (gK h b).1 = 0 → 12 ≤ (gK h b).2 → (gK h b).2 ≤ 14 → gI h' b = gI h b) (ha : zSr a b) (P : zAc h a p k) : zAc h' b p k := by
  obtain ⟨p1, p2⟩ := P
  unfold zAc
  rw [hk p (by rw [p1]; decide), hi p (by rw [p1]) (by rw [p1]; decide) (by rw [p1]; decide), ha 1 (by omega), ha 2 (by omega), ha 3 (by omega), ha (206 + 6 * k) (by omega), ha (207 + 6 * k) (by omega), ha (208 + 6 * k) (by omega), ha (209 + 6 * k) (by omega)]
  exact ⟨p1, p2⟩
theorem zBc_fr {h h' : zHp} {a b : Int → Int} {p : Nat} {k : Int} (k0 : 0 ≤ k) (k9 : k < 60) (hk : ∀ b, (gK h b).1 < 1000 → gK h' b = gK h b) (hi : ∀ b, (gK h b).1 = 0 → 12 ≤ (gK h b).2 → (gK h b).2 ≤ 14 → gI h' b = gI h b) (ha : zSr a b) (P : zBc h a p k) : zBc h' b p k := by
  have hp : gK h p = (0, 12) ∨ gK h p = (0, 13) := P.elim (fun q => Or.inl q.2.1) (fun q => Or.inr q.1)
  have e1 : gK h' p = gK h p := hk p (by rcases hp with e | e <;> rw [e] <;> decide)
  have e2 : gI h' p = gI h p := hi p (by rcases hp with e | e <;> rw [e]) (by rcases hp with e | e <;> rw [e] <;> decide) (by rcases hp with e | e <;> rw [e] <;> decide)
  unfold zBc at P ⊢
  rw [e1, e2, ha 0 (by omega), ha 2 (by omega), ha 3 (by omega), ha (206 + 6 * k) (by omega), ha (207 + 6 * k) (by omega), ha (208 + 6 * k) (by omega), ha (211 + 6 * k) (by omega)]
  exact P
theorem zSq_fr {h h' : zHp} {a b : Int → Int} (hk : ∀ b, (gK h b).1 < 1000 → gK h' b = gK h b) (hr : ∀ b, ((gK h b).1 = 0 ∧ 12 ≤ (gK h b).2 ∧ (gK h b).2 ≤ 13) ∨ (gK h b).1 = 11 → gR h' b = gR h b) (hi : ∀ b, (gK h b).1 = 0 → 12 ≤ (gK h b).2 → (gK h b).2 ≤ 14 → gI h' b = gI h b) (ha : zSr a b) : ∀ (f A : Nat) (i sz k hi : Int), hi ≤ 60 → (gK h A).1 = 11 → zSq h a f A i sz k hi → zSq h' b f A i sz k hi
  | 0, _, _, _, _, _, _, _, P => P
  | f + 1, A, i, sz, k, hi9, hb, hA, P => by
    rcases P with P | ⟨i0, i1, k0, k1, p, p1, P⟩
    · exact Or.inl P
    · refine Or.inr ⟨i0, i1, k0, k1, p, by rw [hr A (Or.inr hA)]; exact p1, ?_⟩
      rcases P with ⟨P, P2⟩ | ⟨P, e, A2, s2, q1, q2, q3, q4, q5, q6, q7, q8, q9, q10, q11⟩
      · exact Or.inl ⟨zAc_fr k0 (by omega) hk hi ha P, zSq_fr hk hr hi ha f A _ _ _ _ hb hA P2⟩
      · have hp : gK h p = (0, 12) ∨ gK h p = (0, 13) := P.elim (fun q => Or.inl q.2.1) (fun q => Or.inr q.1)
        have e2 : gI h' p = gI h p := hi p (by rcases hp with e | e <;> rw [e]) (by rcases hp with e | e <;> rw [e] <;> decide) (by rcases hp with e | e <;> rw [e] <;> decide)
        have e3 : gR h' p = gR h p := hr p (Or.inl (by rcases hp with e | e <;> rw [e] <;> decide))
        have e4 : gK h' A2 = gK h A2 := hk A2 (by rw [q7]; decide)
        exact Or.inr ⟨zBc_fr k0 (by omega) hk hi ha P, e, A2, s2, by rw [ha _ (by omega)]; exact q1, q2, q3, by rw [ha _ (by omega)]; exact q4, by rw [ha _ (by omega)]; exact q5, by rw [e3]; exact q6, by rw [e4]; exact q7, by rw [e4]; exact q8, by rw [e2]; exact q9, zSq_fr hk hr hi ha f A2 _ _ _ _ (by omega) q7 q10, zSq_fr hk hr hi ha f A _ _ _ _ hb hA q11⟩
theorem zVo_fr {h h' : zHp} {a b : Int → Int} {o : Option Nat} (hk : ∀ b, (gK h b).1 < 1000 → gK h' b = gK h b) (hr : ∀ b, ((gK h b).1 = 0 ∧ 12 ≤ (gK h b).2 ∧ (gK h b).2 ≤ 13) ∨ (gK h b).1 = 11 → gR h' b = gR h b) (hi : ∀ b, (gK h b).1 = 0 → 12 ≤ (gK h b).2 → (gK h b).2 ≤ 14 → gI h' b = gI h b) (ha : zSr a b) (P : zVo h o a) : zVo h' o b := by
  have h6 := ha 6 (by omega)
  rcases P with ⟨p1, p2⟩ | ⟨p1, p2, p, A, s, q1, q2, q3, q4, q5, q6, q7, q8⟩
  · exact Or.inl ⟨by rw [h6]; exact p1, p2⟩
  · have e2 : gI h' p = gI h p := hi p (by rw [q2]) (by rw [q2]; decide) (by rw [q2]; decide)
    have e3 : gR h' p = gR h p := hr p (Or.inl (by rw [q2]; decide))
    have e4 : gK h' A = gK h A := hk A (by rw [q5]; decide)
    exact Or.inr ⟨by rw [h6]; exact p1, by rw [h6]; exact p2, p, A, s, q1, by rw [hk p (by rw [q2]; decide)]; exact q2, by rw [e2]; exact q3, by rw [e3]; exact q4, by rw [e4]; exact q5, by rw [e4]; exact q6, by rw [e2]; exact q7, by rw [h6]; exact zSq_fr hk hr hi ha _ _ _ _ _ _ (by omega) q5 q8⟩
/-! trays -/
def zKd (s : Int) : Nat := if s = 0 then 2 else if s = 1 then 3 else if s = 2 then 1 else 4
def zTv (h : zHp) (s : Int) (r : Nat) (k : Int) : Int := if s = 3 then gJ h r k else gI h r k
/-- the tray t holds a row -/
def zTo (h : zHp) (s m : Int) (tv : Int → Int) (r : Nat) (t : Int) : Prop := (0 ≤ m ∧ m ≤ 60) ∧ (0 ≤ s ∧ s ≤ 3) ∧ 129 ≤ r ∧ r < gN h ∧ gK h r = (zKd s, m.toNat) ∧ ∀ k, 0 ≤ k → k < m → zTv h s r k = tv (60 * t + k)
def zTr (h : zHp) (so ma tv : Int → Int) : Prop := (∀ t : Int, 0 ≤ t → t < 4 → ((ma t = -1 ∧ gR h (67 + t.toNat) 0 = none) ∨ ∃ r, gR h (67 + t.toNat) 0 = some r ∧ zTo h (so t) (ma t) tv r t)) ∧ ∀ t u : Int, 0 ≤ t → t < 4 → 0 ≤ u → u < 4 → t ≠ u → ∀ r, gR h (67 + t.toNat) 0 = some r → gR h (67 + u.toNat) 0 ≠ some r
/-! marks -/
def fSh (a : Int → Int) (n m : Int) : Int → Int := fun k => if 0 ≤ k then a (n * (m + 1) + k) else 0
/-- the mark m: its house -/
def zMa (h : zHp) (a nm : Int → Int) (mm m : Int) (H : Nat) : Prop := 129 ≤ H ∧ H + 16 < gN h ∧ gK h H = (0, 4) ∧ gR h H 0 = some (H + 1) ∧ zWk h (H + 1) ∧ (∀ i, i < 4 → 5 ≤ (gK h (H + 2 + i)).1) ∧ (m < mm → zPw h (H + 1) (fSh a 572 m) (fSh nm 24 m) ∧ zIv (fSh a 572 m) ∧ zVo h (gR h H 1) (fSh a 572 m))
def zMs (h : zHp) (a nm : Int → Int) (mm : Int) : Prop := (0 ≤ mm ∧ mm ≤ 3) ∧ (∀ m, 0 ≤ m → m < 3 → ((mm ≤ m ∧ gR h 91 m = none) ∨ ∃ H, gR h 91 m = some H ∧ zMa h a nm mm m H)) ∧ (∀ m m' H H', 0 ≤ m → m < m' → m' < 3 → gR h 91 m = some H → gR h 91 m' = some H' → H + 16 < H') ∧ (∀ (m t : Int) (H r : Nat), 0 ≤ m → m < 3 → 0 ≤ t → t < 4 → gR h 91 m = some H → gR h (67 + t.toNat) 0 = some r → r < H ∨ H + 16 < r) ∧ ∀ m m', 0 ≤ m → m < m' → m' < 3 → gR h 91 m = none → gR h 91 m' = none
/-- the texts -/
def zTxt (h : zHp) : Prop := ∀ a, 1 ≤ a → a < 65 → gK h a = zK0 0 a ∧ gI h a = zI0 (fun _ => 0) a ∧ gR h a = zR0 a
def zRl (h : zHp) (a nm : Int → Int) : Prop := (zMk h) ∧ (zXk h) ∧ (zWk h 92) ∧ (gI h 114 = a) ∧ (gJ h 115 = nm) ∧ (zPw h 75 a nm) ∧ (zIv a) ∧ (gI h 65 7 = gI h 113 2) ∧ (gJ h 65 8 = gJ h 113 3 ∧ gJ h 65 9 = gJ h 113 4) ∧ (gI h 65 2 = gI h 113 10 ∧ 0 ≤ gI h 113 10 ∧ gI h 113 10 ≤ 900) ∧ (∀ k, 0 ≤ k → k < gI h 113 10 → gI h 71 k = gI h 119 k) ∧ (gI h 65 3 = gI h 113 16 ∧ gI h 65 4 = gI h 113 17) ∧ (zTr h (gI h 116) (gI h 117) (gJ h 118)) ∧ (∀ j, 0 ≤ j → j < 5 → gI h 112 j = gI h 128 j) ∧ (gI h 65 24 = gI h 113 40) ∧ (gI h 65 12 = gI h 113 41) ∧ (zMs h a nm (gI h 113 41)) ∧ (zVo h (gR h 74 1) a) ∧ (zTxt h) ∧ (∀ i, i < 4 → 5 ≤ (gK h (76 + i)).1 ∧ 5 ≤ (gK h (93 + i)).1) ∧ (129 ≤ gN h ∧ ∀ b, gN h ≤ b → gK h b = (1000, 0))
theorem zRmk {h : zHp} {a nm : Int → Int} (P : zRl h a nm) : zMk h := P.1
theorem zRxk {h : zHp} {a nm : Int → Int} (P : zRl h a nm) : zXk h := P.2.1
theorem zRwk {h : zHp} {a nm : Int → Int} (P : zRl h a nm) : zWk h 92 := P.2.2.1
theorem zRat {h : zHp} {a nm : Int → Int} (P : zRl h a nm) : gI h 114 = a := P.2.2.2.1
theorem zRnm {h : zHp} {a nm : Int → Int} (P : zRl h a nm) : gJ h 115 = nm := P.2.2.2.2.1
theorem zRpw {h : zHp} {a nm : Int → Int} (P : zRl h a nm) : zPw h 75 a nm := P.2.2.2.2.2.1
theorem zRiv {h : zHp} {a nm : Int → Int} (P : zRl h a nm) : zIv a := P.2.2.2.2.2.2.1
theorem zRst {h : zHp} {a nm : Int → Int} (P : zRl h a nm) : gI h 65 7 = gI h 113 2 := P.2.2.2.2.2.2.2.1
theorem zRup {h : zHp} {a nm : Int → Int} (P : zRl h a nm) : gJ h 65 8 = gJ h 113 3 ∧ gJ h 65 9 = gJ h 113 4 := P.2.2.2.2.2.2.2.2.1
theorem zRtd {h : zHp} {a nm : Int → Int} (P : zRl h a nm) : gI h 65 2 = gI h 113 10 ∧ 0 ≤ gI h 113 10 ∧ gI h 113 10 ≤ 900 := P.2.2.2.2.2.2.2.2.2.1
theorem zRtp {h : zHp} {a nm : Int → Int} (P : zRl h a nm) : ∀ k, 0 ≤ k → k < gI h 113 10 → gI h 71 k = gI h 119 k := P.2.2.2.2.2.2.2.2.2.2.1
theorem zRfa {h : zHp} {a nm : Int → Int} (P : zRl h a nm) : gI h 65 3 = gI h 113 16 ∧ gI h 65 4 = gI h 113 17 := P.2.2.2.2.2.2.2.2.2.2.2.1
theorem zRtr {h : zHp} {a nm : Int → Int} (P : zRl h a nm) : zTr h (gI h 116) (gI h 117) (gJ h 118) := P.2.2.2.2.2.2.2.2.2.2.2.2.1
theorem zRla {h : zHp} {a nm : Int → Int} (P : zRl h a nm) : ∀ j, 0 ≤ j → j < 5 → gI h 112 j = gI h 128 j := P.2.2.2.2.2.2.2.2.2.2.2.2.2.1
theorem zRli {h : zHp} {a nm : Int → Int} (P : zRl h a nm) : gI h 65 24 = gI h 113 40 := P.2.2.2.2.2.2.2.2.2.2.2.2.2.2.1
theorem zRmm {h : zHp} {a nm : Int → Int} (P : zRl h a nm) : gI h 65 12 = gI h 113 41 := P.2.2.2.2.2.2.2.2.2.2.2.2.2.2.2.1
theorem zRms {h : zHp} {a nm : Int → Int} (P : zRl h a nm) : zMs h a nm (gI h 113 41) := P.2.2.2.2.2.2.2.2.2.2.2.2.2.2.2.2.1
theorem zRvo {h : zHp} {a nm : Int → Int} (P : zRl h a nm) : zVo h (gR h 74 1) a := P.2.2.2.2.2.2.2.2.2.2.2.2.2.2.2.2.2.1
theorem zRtx {h : zHp} {a nm : Int → Int} (P : zRl h a nm) : zTxt h := P.2.2.2.2.2.2.2.2.2.2.2.2.2.2.2.2.2.2.1
theorem zRkx {h : zHp} {a nm : Int → Int} (P : zRl h a nm) : ∀ i, i < 4 → 5 ≤ (gK h (76 + i)).1 ∧ 5 ≤ (gK h (93 + i)).1 := P.2.2.2.2.2.2.2.2.2.2.2.2.2.2.2.2.2.2.2.1
theorem zRfr {h : zHp} {a nm : Int → Int} (P : zRl h a nm) : 129 ≤ gN h ∧ ∀ b, gN h ≤ b → gK h b = (1000, 0) := P.2.2.2.2.2.2.2.2.2.2.2.2.2.2.2.2.2.2.2.2
theorem zRl_k {h : zHp} {a nm : Int → Int} (P : zRl h a nm) {b : Nat} (hb : (gK h b).1 < 1000) : b < gN h := by
  by_cases e : b < gN h
  · exact e
  · rw [(zRfr P).2 b (by omega)] at hb
    exact absurd hb (by decide)
/-- what no deed on the slot changes -/
def zSs (a b : Int → Int) : Prop := ∀ k, (0 ≤ k ∧ k < 4) ∨ k = 6 ∨ 206 ≤ k → b k = a k
theorem zSs_rf {a : Int → Int} : zSs a a := fun _ _ => rfl
theorem zSr_of {a b : Int → Int} (S : zSs a b) : zSr a b := fun k hk => S k (by omega)
theorem fSh_ss {a b : Int → Int} {m : Int} (m0 : 0 ≤ m) (S : zSs a b) : fSh b 572 m = fSh a 572 m := by
  funext k
  unfold fSh
  split
  · refine S _ (Or.inr (Or.inr ?_))
    have : 572 * (m + 1) = 572 * m + 572 := by omega
    omega
  · rfl
/-- kinds of cells that the frames of both sides leave alone -/
theorem zKn {h : zHp} {w b : Nat} (W : zWk h w) (hb : (gK h b).1 = 0) (h5 : (gK h b).2 ≠ 5) : b < w ∨ w + 15 < b ∨ (w < b ∧ b < w + 5) := by
  by_cases e : b < w ∨ w + 15 < b ∨ (w < b ∧ b < w + 5)
  · exact e
  · exfalso
    have hx : b = w ∨ b = w + 5 ∨ b = w + 6 ∨ b = w + 7 ∨ b = w + 8 ∨ b = w + 9 ∨ b = w + 10 ∨ b = w + 11 ∨ b = w + 12 ∨ b = w + 13 ∨ b = w + 14 ∨ b = w + 15 := by omega
    obtain rfl | rfl | rfl | rfl | rfl | rfl | rfl | rfl | rfl | rfl | rfl | rfl := hx
    · rw [zWkk W] at h5
      exact h5 rfl
    · rw [zWk10 W] at hb
      exact absurd hb (by decide)
    · rw [zWk11 W] at hb
      exact absurd hb (by decide)
    · rw [zWk12 W] at hb
      exact absurd hb (by decide)
    · rw [zWk13 W] at hb
      exact absurd hb (by decide)
    · rw [zWk14 W] at hb
      exact absurd hb (by decide)
    · rw [zWk15 W] at hb
      exact absurd hb (by decide)
    · rw [zWk16 W] at hb
      exact absurd hb (by decide)
    · rw [zWk17 W] at hb
      exact absurd hb (by decide)
    · rw [zWk18 W] at hb
      exact absurd hb (by decide)
    · rw [zWk19 W] at hb
      exact absurd hb (by decide)
    · rw [zWk20 W] at hb
      exact absurd hb (by decide)
theorem zMk_sx {h h1 : zHp} (a : zSx h h1) (P : zMk h) : zMk h1 := by
  unfold zMk at P ⊢
  rw [a.2.1, a.2.2.2.1 113 (by decide)]
  exact P
theorem zXk_sm {h h1 : zHp} (a : zSm h h1) (P : zXk h) : zXk h1 := by
  unfold zXk at P ⊢
  rw [a.2.1, a.2.2.1]
  exact P
theorem zWk_sm {h h1 : zHp} {w : Nat} (a : zSm h h1) (P : zWk h w) : zWk h1 w := by
  unfold zWk at P ⊢
  rw [a.2.1, a.2.2.1]
  exact P
/-- where an object of the text stands -/
theorem zK8 {h : zHp} {a nm : Int → Int} (P : zRl h a nm) {b : Nat} (hb : (gK h b).1 = 0) (h8 : 8 ≤ (gK h b).2) : b ≠ 65 ∧ (b < 75 ∨ 112 ≤ b) ∧ (b < 113 ∨ 127 < b) := by
  have M := zRmk P
  have X := zRxk P
  have w1 := zKn (zRpw P).2.1 hb (by omega)
  have w2 := zKn (zRwk P) hb (by omega)
  have hx := zRkx P
  refine ⟨fun e => ?_, ?_, ?_⟩
  · rw [e, zXkk X] at h8
    exact absurd h8 (by decide)
  · by_cases e : b < 75 ∨ 112 ≤ b
    · exact e
    · exfalso
      have q : b = 76 ∨ b = 77 ∨ b = 78 ∨ b = 79 ∨ b = 91 ∨ b = 93 ∨ b = 94 ∨ b = 95 ∨ b = 96 ∨ b = 108 ∨ b = 109 ∨ b = 110 ∨ b = 111 := by omega
      obtain rfl | rfl | rfl | rfl | rfl | rfl | rfl | rfl | rfl | rfl | rfl | rfl | rfl := q
      · have : 5 ≤ (gK h 76).1 := (hx 0 (by omega)).1; omega
      · have : 5 ≤ (gK h 77).1 := (hx 1 (by omega)).1; omega
      · have : 5 ≤ (gK h 78).1 := (hx 2 (by omega)).1; omega
      · have : 5 ≤ (gK h 79).1 := (hx 3 (by omega)).1; omega
      · rw [zXk11 X] at hb; exact absurd hb (by decide)
      · have : 5 ≤ (gK h 93).1 := (hx 0 (by omega)).2; omega
      · have : 5 ≤ (gK h 94).1 := (hx 1 (by omega)).2; omega
      · have : 5 ≤ (gK h 95).1 := (hx 2 (by omega)).2; omega
      · have : 5 ≤ (gK h 96).1 := (hx 3 (by omega)).2; omega
      · rw [zXk17 X] at hb; exact absurd hb (by decide)
      · rw [zXk18 X] at hb; exact absurd hb (by decide)
      · rw [zXk19 X] at hb; exact absurd hb (by decide)
      · rw [zXk21 X] at hb; exact absurd hb (by decide)
  · by_cases e : b < 113 ∨ 127 < b
    · exact e
    · exfalso
      have q : b = 113 ∨ b = 114 ∨ b = 115 ∨ b = 116 ∨ b = 117 ∨ b = 118 ∨ b = 119 ∨ b = 120 ∨ b = 121 ∨ b = 122 ∨ b = 123 ∨ b = 124 ∨ b = 125 ∨ b = 126 ∨ b = 127 := by omega
      obtain rfl | rfl | rfl | rfl | rfl | rfl | rfl | rfl | rfl | rfl | rfl | rfl | rfl | rfl | rfl := q
      · rw [zMkk M] at h8; exact absurd h8 (by decide)
      · rw [zMk0 M] at hb; exact absurd hb (by decide)
      · rw [zMk1 M] at hb; exact absurd hb (by decide)
      · rw [zMk5 M] at hb; exact absurd hb (by decide)
      · rw [zMk6 M] at hb; exact absurd hb (by decide)
      · rw [zMk7 M] at hb; exact absurd hb (by decide)
      · rw [zMk8 M] at hb; exact absurd hb (by decide)
      · rw [zMk9 M] at hb; exact absurd hb (by decide)
      · rw [zMk21 M] at hb; exact absurd hb (by decide)
      · rw [zMk24 M] at hb; exact absurd hb (by decide)
      · rw [zMk28 M] at hb; exact absurd hb (by decide)
      · rw [zMk29 M] at hb; exact absurd hb (by decide)
      · rw [zMk32 M] at hb; exact absurd hb (by decide)
      · rw [zMk37 M] at hb; exact absurd hb (by decide)
      · rw [zMk38 M] at hb; exact absurd hb (by decide)
/-- a call on both sides that leaves all but the slot -/
theorem zR_step {h h1 h2 : zHp} {a b nm g : Int → Int} {st : Int} (P : zRl h a nm) (S : zSx h h1) (Pw : zPw h1 75 b nm) (v : zIv b) (Ss : zSs a b) (s1 : gI h1 65 7 = st) (S2 : zSm h1 h2) (s2 : gI h2 113 2 = st) : zRl (zH2 h2 b g) b nm := by
  have hK : gK (zH2 h2 b g) = gK h := S2.2.1.trans S.2.1
  have hJ : gJ (zH2 h2 b g) = gJ h := S2.2.2.2.1.trans S.2.2.1
  have hR : ∀ c, c ≠ 92 → gR (zH2 h2 b g) c = gR h c := fun c hc => (congrFun S2.2.2.1 c).trans (S.2.2.2.1 c hc)
  have hN : gN (zH2 h2 b g) = gN h := congrArg Prod.fst (S2.1.trans S.1)
  have hI2 : ∀ c, c ≠ 113 → c ≠ 114 → (c < 120 ∨ 127 < c) → gI (zH2 h2 b g) c = gI h1 c := fun c c1 c2 c3 => (zH2_ne c2 (by omega)).trans (S2.2.2.2.2.1 c c1 c3)
  have hI : ∀ c, c ≠ 65 → (c < 75 ∨ 112 ≤ c) → (c < 113 ∨ 127 < c ∨ (115 ≤ c ∧ c < 120)) → gI (zH2 h2 b g) c = gI h c := fun c c1 c2 c3 => (hI2 c (by omega) (by omega) (by omega)).trans (S.2.2.2.2.2.1 c c1 c2)
  have h113 : ∀ j, gI (zH2 h2 b g) 113 j = gI h2 113 j := fun j => by rw [zH2_ne (by decide) (by decide)]
  have m113 : ∀ j, gI h1 113 j = gI h 113 j := fun j => by rw [S.2.2.2.2.2.1 113 (by decide) (by decide)]
  have h65 : ∀ j, gI (zH2 h2 b g) 65 j = gI h1 65 j := fun j => by rw [hI2 65 (by decide) (by decide) (by decide)]
  have o8 : ∀ c, (gK h c).1 = 0 → 8 ≤ (gK h c).2 → gI (zH2 h2 b g) c = gI h c := fun c c1 c2 => by
    have q := zK8 P c1 c2
    exact hI c q.1 q.2.1 (by omega)
  have kk : ∀ c, (gK h c).1 < 1000 → gK (zH2 h2 b g) c = gK h c := fun c _ => by rw [hK]
  have tr := zRtr P
  have e116 : gI (zH2 h2 b g) 116 = gI h 116 := hI 116 (by decide) (by decide) (by decide)
  have e117 : gI (zH2 h2 b g) 117 = gI h 117 := hI 117 (by decide) (by decide) (by decide)
  obtain ⟨t2, t10, t16, t17, t40, t41⟩ : True ∧ gI h2 113 10 = gI h1 113 10 ∧ gI h2 113 16 = gI h1 113 16 ∧ gI h2 113 17 = gI h1 113 17 ∧ gI h2 113 40 = gI h1 113 40 ∧ gI h2 113 41 = gI h1 113 41 := ⟨trivial, S2.2.2.2.2.2⟩
  have f65 : ∀ j, j ≠ 7 → j ≠ 14 → j ≠ 15 → j ≠ 16 → j ≠ 20 → j ≠ 22 → gI h1 65 j = gI h 65 j := S.2.2.2.2.2.2
  have i10 : gI (zH2 h2 b g) 113 10 = gI h 113 10 := (h113 10).trans (t10.trans (m113 10))
  have i41 : gI (zH2 h2 b g) 113 41 = gI h 113 41 := (h113 41).trans (t41.trans (m113 41))
  have wp : ∀ {w : Nat} {c n : Int → Int}, 112 < w → zPw h w c n → w + 15 < gN h + 1 → (w < 98 ∨ 127 < w) → zPw (zH2 h2 b g) w c n := fun {w c n} w1 Pc _ w2 => by
    have w3 : 127 < w := by omega
    exact zPw_fr Pc kk (fun d hd => hR d (by
      rcases hd with hd | hd
      · omega
      · intro e
        rw [e, zWkk (zRwk P)] at hd
        exact absurd hd.1 (by decide))) (fun d _ _ _ => by rw [hJ]) (fun d hd => by
      rcases hd with hd | hd
      · exact hI d (by omega) (by omega) (by omega)
      · exact o8 d hd.1 hd.2.1)
  have vof : ∀ {o : Option Nat} {c c' : Int → Int}, zSr c c' → zVo h o c → zVo (zH2 h2 b g) o c' := fun {o c c'} hs Q => zVo_fr kk (fun d hd => hR d (by
      intro e
      rw [e, zWkk (zRwk P)] at hd
      exact absurd hd (by decide))) (fun d d1 d2 _ => o8 d d1 (by omega)) hs Q
  refine ⟨zH2_mk.mpr (zMk_sm S2 (zMk_sx S (zRmk P))), (show zXk h2 from zXk_sm S2 (zXk_sx S (zRxk P))), (show zWk h2 92 from zWk_sm S2 (zWk_sx S (zRwk P))), zH2_at, ?_, ?_, v, ?_, ?_, ?_, ?_, ?_, ?_, ?_, ?_, ?_, ?_, ?_, ?_, ?_, ?_⟩
  · rw [hJ]
    exact zRnm P
  · exact zPw_fr Pw (fun d _ => by rw [hK, S.2.1]) (fun d _ => congrFun S2.2.2.1 d) (fun d _ _ _ => by rw [hJ, S.2.2.1]) (fun d hd => by
      rcases hd with hd | hd
      · exact hI2 d (by omega) (by omega) (by omega)
      · rw [S.2.1] at hd
        have q := zK8 P hd.1 hd.2.1
        exact hI2 d (by omega) (by omega) (by omega))
  · rw [h65, h113, s1, s2]
  · rw [hJ]
    exact zRup P
  · rw [h65, i10, f65 2 (by decide) (by decide) (by decide) (by decide) (by decide) (by decide)]
    exact zRtd P
  · rw [i10, hI 71 (by decide) (by decide) (by decide), hI 119 (by decide) (by decide) (by decide)]
    exact zRtp P
  · rw [h65, h65, h113, h113, t16, t17, m113, m113, f65 3 (by decide) (by decide) (by decide) (by decide) (by decide) (by decide), f65 4 (by decide) (by decide) (by decide) (by decide) (by decide) (by decide)]
    exact zRfa P
  · rw [e116, e117, hJ]
    refine ⟨fun t t0 t1 => ?_, fun t u t0 t1 u0 u1 ne r => ?_⟩
    · rw [hR _ (by omega)]
      rcases tr.1 t t0 t1 with q | ⟨r, r1, r2, r3, r4, r5, r6, r7⟩
      · exact Or.inl q
      · refine Or.inr ⟨r, r1, r2, r3, r4, by rw [hN]; exact r5, by rw [hK]; exact r6, fun k k0 k1 => ?_⟩
        unfold zTv
        rw [hI r (by omega) (by omega) (by omega), hJ]
        exact r7 k k0 k1
    · rw [hR _ (by omega), hR _ (by omega)]
      exact tr.2 t u t0 t1 u0 u1 ne r
  · rw [hI 112 (by decide) (by decide) (by decide), hI 128 (by decide) (by decide) (by decide)]
    exact zRla P
  · rw [h65, h113, t40, m113, f65 24 (by decide) (by decide) (by decide) (by decide) (by decide) (by decide)]
    exact zRli P
  · rw [h65, i41, f65 12 (by decide) (by decide) (by decide) (by decide) (by decide) (by decide)]
    exact zRmm P
  · rw [i41]
    obtain ⟨m1, m2, m3, m4⟩ := zRms P
    refine ⟨m1, fun m m0 m9 => ?_, ?_, ?_⟩
    · rw [hR 91 (by decide)]
      rcases m2 m m0 m9 with q | ⟨H, q1, q2, q3, q4, q5, q6, q7, q8⟩
      · exact Or.inl q
      · refine Or.inr ⟨H, q1, q2, by rw [hN]; exact q3, by rw [hK]; exact q4, by rw [hR H (by omega)]; exact q5, ?_, fun i hi => by rw [hK]; exact q7 i hi, fun hm => ?_⟩
        · unfold zWk at q6 ⊢
          rw [hK, hR _ (by omega)]
          exact q6
        · obtain ⟨z1, z2, z3⟩ := q8 hm
          rw [fSh_ss m0 Ss, hR H (by omega)]
          exact ⟨wp (by omega) z1 (by omega) (by omega), z2, vof zSr_rf z3⟩
    · rw [hR 91 (by decide)]
      exact m3
    · refine ⟨fun m t H r hm0 hm1 ht0 ht1 => ?_, by rw [hR 91 (by decide)]; exact m4.2⟩
      rw [hR 91 (by decide), hR (67 + t.toNat) (by omega)]
      exact m4.1 m t H r hm0 hm1 ht0 ht1
  · rw [hR 74 (by decide)]
    exact vof (zSr_of Ss) (zRvo P)
  · intro c c0 c1
    obtain ⟨q1, q2, q3⟩ := zRtx P c c0 c1
    exact ⟨by rw [hK]; exact q1, by rw [hI c (by omega) (by omega) (by omega)]; exact q2, by rw [hR c (by omega)]; exact q3⟩
  · intro i hi
    rw [hK]
    exact zRkx P i hi
  · rw [hN, hK]
    exact zRfr P
