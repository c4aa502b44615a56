/-! ===== SOUNDNESS, 3: the heap ===== -/
set_option maxRecDepth 100000
def zFv (ρ : Nat → Nat) (h : zHp) (a j : Nat) (t : FieldType) : Value := match t with
  | .long => .long (Int64.ofInt (gJ h a j))
  | .object _ => va_rf ((gR h a j).map ρ)
  | .array _ => va_rf ((gR h a j).map ρ)
  | _ => .int (Int32.ofInt (gI h a j))
/-- the machine's cell e is what the abstract heap says of a -/
def zCe (ρ : Nat → Nat) (tys : List (ClassId × FieldType)) (h : zHp) (a : Nat) (e : va_E) : Prop :=
  (∀ c, gK h a = (0, c) → ∃ r fs, zCls[c]? = some r ∧ e = .inr (c, fs) ∧ fs.length = r.1.2.2 ∧ ∀ j, r.2.2 ≤ j → j < r.1.2.2 → fs[j]? = some (zFv ρ h a j (r.2.1 j))) ∧
  (∀ n, gK h a = (1, n) → ∃ cA f, e = .inl (cA, n, .inl f) ∧ (cA, FieldType.int) ∈ tys ∧ ∀ j : Nat, j < n → f j = Int32.ofInt (gI h a j)) ∧
  (∀ n, gK h a = (2, n) → ∃ cA f, e = .inl (cA, n, .inl f) ∧ (cA, FieldType.byte) ∈ tys ∧ ∀ j : Nat, j < n → f j = Int32.ofInt (gI h a j) ∧ fits .byte (.int (f j)) = true) ∧
  (∀ n, gK h a = (3, n) → ∃ cA f, e = .inl (cA, n, .inl f) ∧ (cA, FieldType.short) ∈ tys ∧ ∀ j : Nat, j < n → f j = Int32.ofInt (gI h a j) ∧ fits .short (.int (f j)) = true) ∧
  (∀ n, gK h a = (4, n) → ∃ cA f, e = .inl (cA, n, .inr (.inl f)) ∧ (cA, FieldType.long) ∈ tys ∧ ∀ j : Nat, j < n → f j = Int64.ofInt (gJ h a j)) ∧
  (∀ k n, 5 ≤ k → gK h a = (k, n) → ∃ cA nm f, zLk zAcl k = some nm ∧ e = .inl (cA, n, .inr (.inr (.inr (.inr f)))) ∧ (cA, FieldType.object nm) ∈ tys ∧ ∀ j : Nat, j < n → f j = (gR h a j).map ρ)
theorem zCe_congr {ρ ρ' : Nat → Nat} {tys tys' : List (ClassId × FieldType)} {h h' : zHp} {a : Nat} {e : va_E} (hk : gK h' a = gK h a) (hi : gI h' a = gI h a) (hj : gJ h' a = gJ h a) (hr : gR h' a = gR h a) (hρ : ∀ j b, gR h a j = some b → ρ' b = ρ b) (ht : ∀ q ∈ tys, q ∈ tys') (c : zCe ρ tys h a e) : zCe ρ' tys' h' a e := by
  have hm : ∀ j, (gR h' a j).map ρ' = (gR h a j).map ρ := fun j => by
    rw [hr]
    cases e9 : gR h a j with
    | none => rfl
    | some b => exact congrArg some (hρ j b e9)
  have hf : ∀ j t, zFv ρ' h' a j t = zFv ρ h a j t := fun j t => by
    cases t <;> simp only [zFv, hi, hj, hm]
  obtain ⟨c0, c1, c2, c3, c4, c5⟩ := c
  refine ⟨fun cc q => ?_, fun n q => ?_, fun n q => ?_, fun n q => ?_, fun n q => ?_, fun k n q5 q => ?_⟩
  · rw [hk] at q
    obtain ⟨r, fs, x1, x2, x3, x4⟩ := c0 cc q
    exact ⟨r, fs, x1, x2, x3, fun j y1 y2 => by rw [hf]; exact x4 j y1 y2⟩
  · rw [hk] at q
    obtain ⟨cA, f, x1, x2, x3⟩ := c1 n q
    exact ⟨cA, f, x1, ht _ x2, fun j y => by rw [hi]; exact x3 j y⟩
  · rw [hk] at q
    obtain ⟨cA, f, x1, x2, x3⟩ := c2 n q
    exact ⟨cA, f, x1, ht _ x2, fun j y => by rw [hi]; exact x3 j y⟩
  · rw [hk] at q
    obtain ⟨cA, f, x1, x2, x3⟩ := c3 n q
    exact ⟨cA, f, x1, ht _ x2, fun j y => by rw [hi]; exact x3 j y⟩
  · rw [hk] at q
    obtain ⟨cA, f, x1, x2, x3⟩ := c4 n q
    exact ⟨cA, f, x1, ht _ x2, fun j y => by rw [hj]; exact x3 j y⟩
  · rw [hk] at q
    obtain ⟨cA, nm, f, x0, x1, x2, x3⟩ := c5 k n q5 q
    exact ⟨cA, nm, f, x0, x1, ht _ x2, fun j y => by rw [hm]; exact x3 j y⟩
/-! what lies there from the start and isn't written: the script, the texts -/
def zTx (k : Nat) : String × Nat × String × List Int := zStr.getD k ("", 0, "", [])
def zK0 (L a : Nat) : Nat × Nat := if a = 0 then (1, L) else if a % 2 = 1 then (0, 16) else (2, (zTx ((a - 2) / 2)).2.2.2.length)
def zI0 (xs : Nat → Int32) (a : Nat) (j : Int) : Int := if a = 0 then (xs j.toNat).toInt else if a % 2 = 1 then 0 else (zTx ((a - 2) / 2)).2.2.2.getD j.toNat 0
def zR0 (a : Nat) (j : Int) : Option Nat := if a % 2 = 1 ∧ j = 0 then some (a + 1) else none
def zWf (xs : Nat → Int32) (L : Nat) (h : zHp) : Prop :=
  (zkc ≤ gN h ∧ ∀ b, (gK h b).2 < 2147483648) ∧ (∀ a j, inI (gI h a j)) ∧ (∀ a j, inL (gJ h a j)) ∧ (∀ a j b, gR h a j = some b → b < gN h) ∧
  (∀ a j b, 5 ≤ (gK h a).1 → gR h a j = some b → zkc ≤ b ∧ (gK h b).1 = 0 ∧ zAsg (gK h a).1 (gK h b).2 = true) ∧
  ∀ a, a < zkc → gK h a = zK0 L a ∧ gI h a = zI0 xs a ∧ gR h a = zR0 a
def zFz (fz : Nat → Nat) (xs : Nat → Int32) (L : Nat) (A : Nat → Prop) (U : State) (H : Heap) : Prop :=
  va_X (fz 0) L xs U H ∧ fz 0 < H.size ∧ ¬ A (fz 0) ∧ L < 2 ^ 31 ∧
  (∀ k, k < 32 → va_O "java/lang/String" (fz (2 * k + 1)) A U H ∧ va_OF "java/lang/String" "coder" "B" (.int 0) (fz (2 * k + 1)) A U H ∧ va_OF "java/lang/String" "value" "[B" (.ref (fz (2 * k + 2))) (fz (2 * k + 1)) A U H ∧ va_T .byte (fz (2 * k + 2)) (zTx k).2.2.2.length (fun j => .int (Int32.ofInt ((zTx k).2.2.2.getD j 0))) A U H) ∧
  (∀ k, k < 32 → vk_R (zTx k).1 (zTx k).2.1 (zTx k).2.2.1 (fz (2 * k + 1)) U) ∧
  va_Z "java/lang/String" "COMPACT_STRINGS" "Z" (.int 1) A U H ∧
  vx_Zq Bundle.tN "UNASSIGNED_STACK" Bundle.steD A U H ∧ vx_Zq Bundle.tN "SUPPRESSED_SENTINEL" Bundle.listD A U H ∧
  va_Zq "jdk/internal/util/Preconditions" "SIOOBE_FORMATTER" "Ljava/util/function/BiFunction;" A U H
/-- the abstract heap h is the machine's heap H -/
def zRel (D : va_G) (s : State) (A : Nat → Prop) (fz : Nat → Nat) (xs : Nat → Int32) (L : Nat) (H : Heap) (ρ : Nat → Nat) (ws : va_W) (tys : List (ClassId × FieldType)) (h : zHp) : Prop :=
  va_K D zcl tys s ∧ va_P D zcl ws H ∧ va_D A ws ∧ ws.length + zkc = gN h ∧ (∀ i q, ws[i]? = some q → q.1 = ρ (zkc + i) ∧ zCe ρ tys h (zkc + i) q.2) ∧ zWf xs L h ∧ ∀ a, a < zkc → ρ a = fz a
section ZR
variable {D : va_G} {s : State} {A : Nat → Prop} {fz : Nat → Nat} {xs : Nat → Int32} {L : Nat} {H H1 : Heap} {ρ : Nat → Nat} {ws : va_W} {tys : List (ClassId × FieldType)} {h h' : zHp}
theorem zRel_at (r : zRel D s A fz xs L H ρ ws tys h) {a : Nat} (h1 : zkc ≤ a) (h2 : a < gN h) : ∃ e, ws[a - zkc]? = some (ρ a, e) ∧ zCe ρ tys h a e := by
  obtain ⟨-, -, -, hl, hc, -, -⟩ := r
  have h3 : a - zkc < ws.length := by omega
  have h4 : zkc + (a - zkc) = a := by omega
  obtain ⟨q, hq⟩ : ∃ q, ws[a - zkc]? = some q := ⟨_, List.getElem?_eq_getElem h3⟩
  obtain ⟨h5, h6⟩ := hc _ _ hq
  rw [h4] at h5 h6
  exact ⟨q.2, by rw [hq, ← h5], h6⟩
/-- a cell is written -/
theorem zRel_set (r : zRel D s A fz xs L H ρ ws tys h) {a : Nat} (h1 : zkc ≤ a) {e' : va_E} (hn : gN h' = gN h) (hk : gK h' = gK h) (hi : ∀ b, b ≠ a → gI h' b = gI h b) (hj : ∀ b, b ≠ a → gJ h' b = gJ h b) (hr : ∀ b, b ≠ a → gR h' b = gR h b)
    (hP : va_P D zcl (ws.set (a - zkc) (ρ a, e')) H1) (hD : va_D A (ws.set (a - zkc) (ρ a, e'))) (hc : zCe ρ tys h' a e') (hw : zWf xs L h') : zRel D s A fz xs L H1 ρ (ws.set (a - zkc) (ρ a, e')) tys h' := by
  obtain ⟨rK, -, -, rl, rc, -, rz⟩ := r
  refine ⟨rK, hP, hD, by rw [List.length_set, hn]; exact rl, fun i q hq => ?_, hw, rz⟩
  by_cases e : a - zkc = i
  · subst e
    have h9 : zkc + (a - zkc) = a := by omega
    rw [List.getElem?_set] at hq
    simp only [if_true] at hq
    split at hq
    · cases hq
      rw [h9]
      exact ⟨rfl, hc⟩
    · cases hq
  · rw [List.getElem?_set, if_neg e] at hq
    obtain ⟨h5, h6⟩ := rc i q hq
    have h7 : zkc + i ≠ a := by omega
    exact ⟨h5, zCe_congr (congrFun hk _) (hi _ h7) (hj _ h7) (hr _ h7) (fun _ _ _ => rfl) (fun _ hx => hx) h6⟩
/-- a cell is made -/
theorem zRel_new (r : zRel D s A fz xs L H ρ ws tys h) {q : Nat} {e' : va_E} {k : Nat × Nat} {z : Nat} {tys' : List (ClassId × FieldType)} (hK : va_K D zcl tys' s) (ht : ∀ x ∈ tys, x ∈ tys')
    (hP : va_P D zcl (ws ++ [(q, e')]) H1) (hD : va_D A (ws ++ [(q, e')])) (hc : zCe (va_up ρ (gN h) q) tys' (gNew h k z) (gN h) e') (hw : zWf xs L (gNew h k z)) : zRel D s A fz xs L H1 (va_up ρ (gN h) q) (ws ++ [(q, e')]) tys' (gNew h k z) := by
  obtain ⟨-, -, -, rl, rc, rw9, rz⟩ := r
  refine ⟨hK, hP, hD, by rw [List.length_append]; show ws.length + 1 + zkc = gN h + 1; omega, fun i x hx => ?_, hw, fun a ha => ?_⟩
  · by_cases e : i < ws.length
    · rw [List.getElem?_append_left e] at hx
      obtain ⟨h5, h6⟩ := rc i x hx
      have h7 : zkc + i ≠ gN h := by omega
      have u : ∀ {α : Type} (f g : Nat → α), (fun b => if b = gN h then f b else g b) (zkc + i) = g (zkc + i) := fun f g => if_neg h7
      refine ⟨by rw [va_up_ne _ _ h7]; exact h5, zCe_congr (if_neg h7) (if_neg h7) (if_neg h7) (if_neg h7) (fun j b hb => ?_) ht h6⟩
      have h8 : b < gN h := rw9.2.2.2.1 _ j b hb
      exact va_up_ne _ _ (by omega)
    · have h8 : i < (ws ++ [(q, e')]).length := (List.getElem?_eq_some_iff.mp hx).1
      rw [List.length_append] at h8
      have h9 : i = ws.length := by
        have : ([(q, e')] : va_W).length = 1 := rfl
        omega
      subst h9
      rw [List.getElem?_append_right (Nat.le_refl _), Nat.sub_self] at hx
      cases hx
      have h10 : zkc + ws.length = gN h := by omega
      rw [h10]
      exact ⟨(va_up_self _ _ _).symm, hc⟩
  · have h8 : zkc ≤ gN h := rw9.1.1
    rw [va_up_ne _ _ (by omega)]
    exact rz a ha
end ZR
/-! the heap's laws -/
theorem zU_in {f : Int → Int} {j v : Int} {P : Int → Prop} (hf : ∀ k, P (f k)) (hv : P v) (k : Int) : P (zU f j v k) := by
  unfold zU
  split
  · exact hv
  · exact hf k
theorem sIA_ne {h : zHp} {a b : Nat} {f : Int → Int} (e : b ≠ a) : gI (sIA h a f) b = gI h b := if_neg e
theorem sIA_eq {h : zHp} {a : Nat} {f : Int → Int} : gI (sIA h a f) a = f := if_pos rfl
theorem sJA_ne {h : zHp} {a b : Nat} {f : Int → Int} (e : b ≠ a) : gJ (sJA h a f) b = gJ h b := if_neg e
theorem sJA_eq {h : zHp} {a : Nat} {f : Int → Int} : gJ (sJA h a f) a = f := if_pos rfl
theorem sRA_ne {h : zHp} {a b : Nat} {f : Int → Option Nat} (e : b ≠ a) : gR (sRA h a f) b = gR h b := if_neg e
theorem sRA_eq {h : zHp} {a : Nat} {f : Int → Option Nat} : gR (sRA h a f) a = f := if_pos rfl
section ZW
variable {xs : Nat → Int32} {L : Nat} {h : zHp}
theorem zWf_IA (w : zWf xs L h) {a : Nat} (ha : zkc ≤ a) {f : Int → Int} (hf : ∀ j, inI (f j)) : zWf xs L (sIA h a f) := by
  obtain ⟨w1, w2, w3, w4, w5, w6⟩ := w
  refine ⟨w1, fun b j => ?_, w3, w4, w5, fun b hb => ⟨(w6 b hb).1, ?_, (w6 b hb).2.2⟩⟩
  · by_cases e : b = a
    · subst e
      rw [sIA_eq]
      exact hf j
    · rw [sIA_ne e]
      exact w2 b j
  · rw [sIA_ne (by omega)]
    exact (w6 b hb).2.1
theorem zWf_JA (w : zWf xs L h) {a : Nat} {f : Int → Int} (hf : ∀ j, inL (f j)) : zWf xs L (sJA h a f) := by
  obtain ⟨w1, w2, w3, w4, w5, w6⟩ := w
  refine ⟨w1, w2, fun b j => ?_, w4, w5, w6⟩
  by_cases e : b = a
  · subst e
    rw [sJA_eq]
    exact hf j
  · rw [sJA_ne e]
    exact w3 b j
theorem zWf_RA (w : zWf xs L h) {a : Nat} (ha : zkc ≤ a) {f : Int → Option Nat} (hf : ∀ j b, f j = some b → b < gN h) (hg : 5 ≤ (gK h a).1 → ∀ j b, f j = some b → zkc ≤ b ∧ (gK h b).1 = 0 ∧ zAsg (gK h a).1 (gK h b).2 = true) : zWf xs L (sRA h a f) := by
  obtain ⟨w1, w2, w3, w4, w5, w6⟩ := w
  refine ⟨w1, w2, w3, fun b j x hx => ?_, fun b j x hk hx => ?_, fun b hb => ⟨(w6 b hb).1, (w6 b hb).2.1, ?_⟩⟩
  · by_cases e : b = a
    · subst e
      rw [sRA_eq] at hx
      exact hf j x hx
    · rw [sRA_ne e] at hx
      exact w4 b j x hx
  · by_cases e : b = a
    · subst e
      rw [sRA_eq] at hx
      exact hg hk j x hx
    · rw [sRA_ne e] at hx
      exact w5 b j x hk hx
  · rw [sRA_ne (by omega)]
    exact (w6 b hb).2.2
theorem zWf_new (w : zWf xs L h) {k : Nat × Nat} (hk9 : k.2 < 2147483648) {z : Nat} : zWf xs L (gNew h k z) := by
  obtain ⟨⟨w1, w0⟩, w2, w3, w4, w5, w6⟩ := w
  have n1 : gN (gNew h k z) = gN h + 1 := rfl
  have kne : ∀ b, b ≠ gN h → gK (gNew h k z) b = gK h b := fun b e => if_neg e
  have rne : ∀ b, b ≠ gN h → gR (gNew h k z) b = gR h b := fun b e => if_neg e
  have req : gR (gNew h k z) (gN h) = fun _ => none := if_pos rfl
  refine ⟨⟨by rw [n1]; omega, fun b => ?_⟩, fun b j => ?_, fun b j => ?_, fun b j x hx => ?_, fun b j x hk hx => ?_, fun b hb => ?_⟩
  · show ((if b = h.1.1 then k else h.2.1 b) : Nat × Nat).2 < 2147483648
    split
    · exact hk9
    · exact w0 b
  · show inI ((if b = h.1.1 then (fun _ => 0) else h.2.2.1 b) j)
    split
    · exact in_0
    · exact w2 b j
  · show inL ((if b = h.1.1 then (fun _ => 0) else h.2.2.2.1 b) j)
    split
    · exact (show inL 0 from ⟨by decide, by decide⟩)
    · exact w3 b j
  · by_cases e : b = gN h
    · subst e
      rw [req] at hx
      cases hx
    · rw [rne b e] at hx
      have := w4 b j x hx
      rw [n1]
      omega
  · by_cases e : b = gN h
    · subst e
      rw [req] at hx
      cases hx
    · rw [rne b e] at hx
      rw [kne b e] at hk ⊢
      have h3 := w4 b j x hx
      rw [kne x (by omega)]
      exact w5 b j x hk hx
  · have e : b ≠ gN h := by omega
    rw [kne b e, rne b e, show gI (gNew h k z) b = gI h b from if_neg e]
    exact w6 b hb
theorem zWf_tick (w : zWf xs L h) {c z : Nat} : zWf xs L (gTick h c z) := w
end ZW
