/-! ===== values of the abstract machine, a method's facts, tables by number ===== -/
set_option maxRecDepth 100000
abbrev zAv : Type := Int ⊕ (Int ⊕ Option Nat)
abbrev zi (x : Int) : zAv := Sum.inl x
abbrev zl (x : Int) : zAv := Sum.inr (Sum.inl x)
abbrev zr (o : Option Nat) : zAv := Sum.inr (Sum.inr o)
/-- a method: its name, code, locals, answer, its class's number, handlers, rank, whether it is a constructor -/
abbrev zMi : Type := MethodName × ByteArray × Nat × Option FieldType × Nat × List (Nat × Nat × Nat × Nat) × Nat × Bool
def zLk {α : Type} : List (Nat × α) → Nat → Option α
  | [], _ => none
  | q :: r, i => cond (Nat.beq q.1 i) (some q.2) (zLk r i)
def zLk2 {α : Type} (t : List (Nat × List (Nat × α))) (i j : Nat) : Option α := match zLk t i with
  | some u => zLk u j
  | none => none
def zLk3 {α : Type} (t : List (Nat × List (Nat × List (Nat × α)))) (i j k : Nat) : Option α := match zLk2 t i j with
  | some u => zLk u k
  | none => none
theorem zLk_mem {α : Type} : ∀ {t : List (Nat × α)} {i : Nat} {x : α}, zLk t i = some x → (i, x) ∈ t
  | q :: r, i, x, h => by
    unfold zLk at h
    by_cases e : Nat.beq q.1 i = true
    · rw [e] at h
      have e1 : q.1 = i := Nat.eq_of_beq_eq_true e
      have e2 : q.2 = x := Option.some.inj h
      have e3 : q = (i, x) := by rw [← e1, ← e2]
      rw [e3]
      exact List.mem_cons_self
    · have e' : Nat.beq q.1 i = false := by
        cases h9 : Nat.beq q.1 i with
        | true => exact absurd h9 e
        | false => rfl
      rw [e'] at h
      exact List.mem_cons_of_mem _ (zLk_mem h)
theorem zLk2_mem {α : Type} {t : List (Nat × List (Nat × α))} {i j : Nat} {x : α} (h : zLk2 t i j = some x) : ∃ u, (i, u) ∈ t ∧ (j, x) ∈ u := by
  unfold zLk2 at h
  cases e : zLk t i with
  | none => rw [e] at h; cases h
  | some u => rw [e] at h; exact ⟨u, zLk_mem e, zLk_mem h⟩
theorem zLk3_mem {α : Type} {t : List (Nat × List (Nat × List (Nat × α)))} {i j k : Nat} {x : α} (h : zLk3 t i j k = some x) : ∃ u v, (i, u) ∈ t ∧ (j, v) ∈ u ∧ (k, x) ∈ v := by
  unfold zLk3 at h
  cases e : zLk2 t i j with
  | none => rw [e] at h; cases h
  | some v =>
    rw [e] at h
    obtain ⟨u, h1, h2⟩ := zLk2_mem e
    exact ⟨u, v, h1, h2, zLk_mem h⟩
