/-! ===== SOUNDNESS, 10: runs only make cells ===== -/
set_option maxRecDepth 100000
def zGe (h h' : zHp) : Prop := gN h ≤ gN h' ∧ gC h ≤ gC h' ∧ gS h ≤ gS h'
theorem zGe_of {h h' : zHp} (e : h'.1 = h.1) : zGe h h' := by
  unfold zGe gN gC gS
  rw [e]
  exact ⟨Nat.le_refl _, Nat.le_refl _, Nat.le_refl _⟩
theorem zGe_new {h : zHp} {k : Nat × Nat} {z : Nat} : zGe h (gNew h k z) := ⟨Nat.le_succ _, Nat.le_succ _, Nat.le_add_right _ _⟩
theorem zGe_tick {h : zHp} {c z : Nat} : zGe h (gTick h c z) := ⟨Nat.le_refl _, Nat.le_add_right _ _, Nat.le_add_right _ _⟩
theorem zGe_trans {a b c : zHp} (h1 : zGe a b) (h2 : zGe b c) : zGe a c := ⟨Nat.le_trans h1.1 h2.1, Nat.le_trans h1.2.1 h2.2.1, Nat.le_trans h1.2.2 h2.2.2⟩
theorem zCpy_1 (h : zHp) (a : Nat) (sp : Int) (b : Nat) (dp n : Int) : (zCpy h a sp b dp n).1 = h.1 := by
  unfold zCpy
  split
  · rfl
  · split <;> rfl
theorem zPutF_1 {ty : Nat} {h h' : zHp} {a j : Nat} {v : zAv} (e : zPutF ty h a j v = some h') : h'.1 = h.1 := by
  unfold zPutF at e
  split at e
  · cases e; rfl
  · split at e
    · cases e; rfl
    · cases e
  · cases e; rfl
  · cases e; rfl
  · cases e
theorem zHeap_mono {C : Nat} {ini : Bool} {i : Instr} {st : List zAv} {h : zHp} {q : zSh2} (hp : zHeap C ini i st h = some q) : zGe h q.2 := by
  unfold zHeap at hp
  split at hp <;> (repeat' (split at hp)) <;> first | (cases hp; exact zGe_of rfl) | (cases hp; exact zGe_new) | (cases hp; exact zGe_of (zCpy_1 _ _ _ _ _ _)) | (rename_i e; cases hp; exact zGe_of (zPutF_1 e)) | cases hp
def zMo (k : zK) : Prop := ∀ M d pc ls st h r, k M d pc ls st h = some r → zGe h r.2
theorem zThrow_mo {k : zK} (hk : zMo k) {M : zMi} {d pc : Nat} {ls : List (Option zAv)} {h : zHp} {E : Nat} {a : Option Nat} {r : zRs} (e : zThrow k M d pc ls h E a = some r) : zGe h r.2 := by
  unfold zThrow at e
  split at e
  · cases e
    exact zGe_of rfl
  · split at e
    · split at e
      · exact hk _ _ _ _ _ _ _ e
      · cases e
    · split at e
      · exact hk _ _ _ _ _ _ _ e
      · cases e
    · cases e
theorem zAfter_mo {k : zK} (hk : zMo k) {M : zMi} {d pc : Nat} {ls : List (Option zAv)} {r : List zAv} {q r' : zRs} (e : zAfter k M d pc ls r q = some r') : zGe q.2 r'.2 := by
  unfold zAfter at e
  split at e
  · exact hk _ _ _ _ _ _ _ e
  · exact hk _ _ _ _ _ _ _ e
  · exact zThrow_mo hk e
theorem zStep_mo {k : zK} (hk : zMo k) {M : zMi} {d pc : Nat} {ls : List (Option zAv)} {st : List zAv} {h : zHp} {i : Instr} {len : Nat} {r : zRs} (e : zStep k M d pc ls st h i len = some r) : zGe h r.2 := by
  unfold zStep at e
  split at e
  · split at e
    · exact hk _ _ _ _ _ _ _ e
    · cases e
  · split at e
    · exact hk _ _ _ _ _ _ _ e
    · cases e
  · split at e
    · rename_i q hq
      exact zGe_trans (zHeap_mono hq) (hk _ _ _ _ _ _ _ e)
    · split at e
      · exact zGe_trans zGe_tick (zThrow_mo hk e)
      · cases e
  · split at e
    · rename_i q hq
      split at e
      · split at e
        · rename_i r9 e9
          exact zGe_trans (hk _ _ _ _ _ _ _ e9) (zAfter_mo hk e)
        · cases e
      · cases e
    · cases e
  · split at e
    · cases e
      exact zGe_of rfl
    · cases e
  · split at e
    · split at e
      · exact zThrow_mo hk e
      · cases e
    · cases e
  · cases e
theorem zRun_mo : ∀ n, zMo (zRun n)
  | 0 => fun _ _ _ _ _ _ _ e => by cases e
  | n + 1 => fun M d pc ls st h r e => by
    unfold zRun at e
    cases hd : decode (mCode M) pc with
    | error x => rw [hd] at e; cases e
    | ok q =>
      rw [hd] at e
      have e : (if zLenOk q.1 q.2 = true then zStep (zRun n) M d pc ls st h q.1 q.2 else none) = some r := e
      split at e
      · exact zStep_mo (zRun_mo n) e
      · cases e
