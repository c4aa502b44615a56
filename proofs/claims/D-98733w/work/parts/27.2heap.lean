/-! ===== SOUNDNESS, 11: instructions on the heap, all together ===== -/
set_option maxRecDepth 100000
section ZHA
variable {p : Program} {l : Launch} {e : Env} {R : Room} {s : State} {m : MethodId} {args : Array Value} {below : List Frame} {meth : Method} {c : Code} {H : Heap} {locs : List Loc} {cells slots : Nat} {Q : State → Prop}
variable {D : va_G} {A : Nat → Prop} {fz : Nat → Nat} {xs : Nat → Int32} {L : Nat} {ρ : Nat → Nat} {ws : va_W} {tys : List (ClassId × FieldType)} {h h' : zHp}
variable {M : zMi} {pc : Nat} {st st' rest : List zAv} {lr : Array Slot} {len : Nat}
set_option maxHeartbeats 4000000 in
theorem zS_heap (X : zCtx M p s m args meth c) (r : zRel D s A fz xs L H ρ ws tys h) (hf : zFz fz xs L A s s.heap) (hS : va_S A s.heap H locs) (hA : ∀ q, s.heap.size ≤ q → A q) (hRF : 16 ≤ R.frames) (hRL : 12000 ≤ R.locals) (hls : lr.size = mLoc M) {i : Instr} (hdg : decode (mCode M) pc = .ok (i, len)) (hlen : zLenOk i len = true) (hp : zHeap (mCls M) (mIni M) i st h = some (st', h')) (hcl : cells + gC h' ≤ R.cells + gC h) (hsl : slots + gS h' ≤ R.slots + gS h) (ho : ∀ v ∈ st, zOk (gN h) v)
    (kk : zKk p l e R s m args below meth c cells slots Q D A fz xs L ρ h h' st' (F0 m (pc + len) lr)) : W p l e R s m args below meth c H locs cells slots Q (F0 m pc lr (st.map (zv ρ))) := by
  have hcl9 : cells ≤ R.cells := by
    have h9 := (zHeap_mono hp).2.1
    change gC h ≤ gC h' at h9
    omega
  have hsl9 : slots ≤ R.slots := by
    have h9 := (zHeap_mono hp).2.2
    change gS h ≤ gS h' at h9
    omega
  cases i with
  | getfield x =>
    have e1 : len = 3 := Nat.eq_of_beq_eq_true hlen
    subst e1
    unfold zHeap at hp
    dsimp only at hp
    split at hp
    · rename_i a r0
      split at hp
      · rename_i hk
        split at hp
        · rename_i q hq
          cases hp
          exact zS_getf X r hf hS hdg hk hq ho kk
        · cases hp
      · cases hp
    · cases hp
  | putfield x =>
    have e1 : len = 3 := Nat.eq_of_beq_eq_true hlen
    subst e1
    unfold zHeap at hp
    dsimp only at hp
    split at hp
    · rename_i v a r0
      split at hp
      · rename_i hk
        split at hp
        · rename_i q hq
          split at hp
          · rename_i hi
            split at hp
            · rename_i h9 hp9
              cases hp
              exact zS_putf X r hS hdg hk.1 hk.2 hq hi hp9 ho kk
            · cases hp
          · cases hp
        · cases hp
      · cases hp
    · cases hp
  | getstatic x =>
    have e1 : len = 3 := Nat.eq_of_beq_eq_true hlen
    subst e1
    unfold zHeap at hp
    dsimp only at hp
    split at hp
    · rename_i v hq
      cases hp
      exact zS_gets X r hf hS hdg hq ho kk
    · cases hp
  | ldc x =>
    have e1 : len = 2 := Nat.eq_of_beq_eq_true hlen
    subst e1
    unfold zHeap at hp
    dsimp only at hp
    split at hp
    · rename_i v hq
      cases hp
      exact zS_ldc X r hf hS hdg hq ho kk
    · cases hp
  | ldc_w x =>
    have e1 : len = 3 := Nat.eq_of_beq_eq_true hlen
    subst e1
    unfold zHeap at hp
    dsimp only at hp
    split at hp
    · rename_i v hq
      cases hp
      exact zS_ldcw X r hS hdg hq ho kk
    · cases hp
  | ldc2_w x =>
    have e1 : len = 3 := Nat.eq_of_beq_eq_true hlen
    subst e1
    unfold zHeap at hp
    dsimp only at hp
    split at hp
    · rename_i v hq
      cases hp
      exact zS_ldc2 X r hS hdg hq ho kk
    · cases hp
  | arraylength =>
    have e1 : len = 1 := Nat.eq_of_beq_eq_true hlen
    subst e1
    unfold zHeap at hp
    dsimp only at hp
    split at hp
    · rename_i a r0
      split at hp
      · rename_i hk
        cases hp
        exact zS_alen X r hf hS hdg hk ho kk
      · cases hp
    · cases hp
  | iaload =>
    have e1 : len = 1 := Nat.eq_of_beq_eq_true hlen
    subst e1
    unfold zHeap at hp
    dsimp only at hp
    split at hp
    · rename_i i a r0
      split at hp
      · rename_i hk
        cases hp
        exact zS_iald X r hf hS hdg hk ho kk
      · cases hp
    · cases hp
  | baload =>
    have e1 : len = 1 := Nat.eq_of_beq_eq_true hlen
    subst e1
    unfold zHeap at hp
    dsimp only at hp
    split at hp
    · rename_i i a r0
      split at hp
      · rename_i hk
        cases hp
        exact zS_bald X r hf hS hdg hk ho kk
      · cases hp
    · cases hp
  | saload =>
    have e1 : len = 1 := Nat.eq_of_beq_eq_true hlen
    subst e1
    unfold zHeap at hp
    dsimp only at hp
    split at hp
    · rename_i i a r0
      split at hp
      · rename_i hk
        cases hp
        exact zS_sald X r hS hdg hk ho kk
      · cases hp
    · cases hp
  | laload =>
    have e1 : len = 1 := Nat.eq_of_beq_eq_true hlen
    subst e1
    unfold zHeap at hp
    dsimp only at hp
    split at hp
    · rename_i i a r0
      split at hp
      · rename_i hk
        cases hp
        exact zS_lald X r hS hdg hk ho kk
      · cases hp
    · cases hp
  | aaload =>
    have e1 : len = 1 := Nat.eq_of_beq_eq_true hlen
    subst e1
    unfold zHeap at hp
    dsimp only at hp
    split at hp
    · rename_i i a r0
      split at hp
      · rename_i hk
        cases hp
        exact zS_aald X r hS hdg hk ho kk
      · cases hp
    · cases hp
  | iastore =>
    have e1 : len = 1 := Nat.eq_of_beq_eq_true hlen
    subst e1
    unfold zHeap at hp
    dsimp only at hp
    split at hp
    · rename_i v i a r0
      split at hp
      · rename_i hk
        cases hp
        exact zS_iast X r hS hdg hk.1 hk.2 ho kk
      · cases hp
    · cases hp
  | bastore =>
    have e1 : len = 1 := Nat.eq_of_beq_eq_true hlen
    subst e1
    unfold zHeap at hp
    dsimp only at hp
    split at hp
    · rename_i v i a r0
      split at hp
      · rename_i hk
        cases hp
        exact zS_bast X r hS hdg hk.1 hk.2 ho kk
      · cases hp
    · cases hp
  | sastore =>
    have e1 : len = 1 := Nat.eq_of_beq_eq_true hlen
    subst e1
    unfold zHeap at hp
    dsimp only at hp
    split at hp
    · rename_i v i a r0
      split at hp
      · rename_i hk
        cases hp
        exact zS_sast X r hS hdg hk.1 hk.2 ho kk
      · cases hp
    · cases hp
  | lastore =>
    have e1 : len = 1 := Nat.eq_of_beq_eq_true hlen
    subst e1
    unfold zHeap at hp
    dsimp only at hp
    split at hp
    · rename_i v i a r0
      split at hp
      · rename_i hk
        cases hp
        exact zS_last X r hS hdg hk.1 hk.2 ho kk
      · cases hp
    · cases hp
  | aastore =>
    have e1 : len = 1 := Nat.eq_of_beq_eq_true hlen
    subst e1
    unfold zHeap at hp
    dsimp only at hp
    split at hp
    · rename_i b i a r0
      split at hp
      · rename_i hk
        cases hp
        exact zS_aast X r hS hdg hk ho kk
      · cases hp
    · cases hp
  | new x =>
    have e1 : len = 3 := Nat.eq_of_beq_eq_true hlen
    subst e1
    unfold zHeap at hp
    dsimp only at hp
    split at hp
    · rename_i q hq
      cases hp
      exact zS_new X r hS hA hdg hq ho (by change cells + (gC h + 1) ≤ _ at hcl; omega) (by change slots + (gS h + q.2) ≤ _ at hsl; omega) kk
    · cases hp
  | newarray t =>
    have e1 : len = 2 := Nat.eq_of_beq_eq_true hlen
    subst e1
    unfold zHeap at hp
    dsimp only at hp
    split at hp
    · rename_i n r0
      split at hp
      · rename_i hn
        split at hp
        · rename_i k hk
          cases hp
          exact zS_newa X r hS hA hdg hn.1 hn.2 hk ho (by change cells + (gC h + 1) ≤ _ at hcl; omega) (by change slots + (gS h + n.toNat) ≤ _ at hsl; omega) kk
        · cases hp
      · cases hp
    · cases hp
  | anewarray x =>
    have e1 : len = 3 := Nat.eq_of_beq_eq_true hlen
    subst e1
    unfold zHeap at hp
    dsimp only at hp
    split at hp
    · rename_i n r0
      split at hp
      · rename_i hn
        split at hp
        · rename_i k hk
          cases hp
          exact zS_newq X r hS hA hdg hn.1 hn.2 hk ho (by change cells + (gC h + 1) ≤ _ at hcl; omega) (by change slots + (gS h + n.toNat) ≤ _ at hsl; omega) kk
        · cases hp
      · cases hp
    · cases hp
  | instanceof x =>
    have e1 : len = 3 := Nat.eq_of_beq_eq_true hlen
    subst e1
    unfold zHeap at hp
    dsimp only at hp
    split at hp
    · rename_i a r0
      split at hp
      · rename_i hk
        split at hp
        · rename_i t ht
          split at hp
          · rename_i h3
            cases hp
            exact zS_inst X r hS hdg hk.1 hk.2.1 hk.2.2 ht h3 ho kk
          · cases hp
        · cases hp
      · cases hp
    · cases hp
  | checkcast x =>
    have e1 : len = 3 := Nat.eq_of_beq_eq_true hlen
    subst e1
    unfold zHeap at hp
    dsimp only at hp
    split at hp
    · rename_i a r0
      split at hp
      · rename_i hz
        split at hp
        · rename_i t ht
          split at hp
          · rename_i hk
            cases hp
            exact zS_cast X r hS hdg hz ht hk ho kk
          · cases hp
        · cases hp
      · cases hp
    · cases hp
  | invokestatic x =>
    have e1 : len = 3 := Nat.eq_of_beq_eq_true hlen
    subst e1
    unfold zHeap at hp
    dsimp only at hp
    split at hp
    · rename_i hq
      split at hp
      · rename_i n dp b sp a r0
        split at hp
        · rename_i hc
          cases hp
          have hk : (gK h a).1 = 1 ∨ (gK h a).1 = 2 ∨ (gK h a).1 = 3 ∨ (gK h a).1 = 4 ∨ 5 ≤ (gK h a).1 := by
            have h9 := hc.2.1.2.2.1
            omega
          rcases hk with hk | hk | hk | hk | hk
          · exact zS_cpyi X r hS hRF hRL hls hdg hq hc.1 hc.2.1 hc.2.2 hk ho kk
          · exact zS_cpyb X r hS hRF hRL hls hdg hq hc.1 hc.2.1 hc.2.2 hk ho kk
          · exact zS_cpys X r hS hRF hRL hls hdg hq hc.1 hc.2.1 hc.2.2 hk ho kk
          · exact zS_cpyl X r hS hRF hRL hls hdg hq hc.1 hc.2.1 hc.2.2 hk ho kk
          · exact zS_cpyq X r hS hRF hRL hls hdg hq hc.1 hc.2.1 hc.2.2 hk ho kk
        · cases hp
      · cases hp
    · rename_i hq
      split at hp
      · rename_i n i r0
        split at hp
        · rename_i hc
          cases hp
          exact zS_cki X r hf hS hRF hRL hcl9 hsl9 hls hdg hq hc.1 hc.2.1 hc.2.2 ho kk
        · cases hp
      · cases hp
    · rename_i hq
      split at hp
      · rename_i y z r0
        split at hp
        · rename_i hc
          cases hp
          exact zS_mmax X r hS hRF hRL hcl9 hsl9 hls hdg hq hc ho kk
        · cases hp
      · cases hp
    · rename_i hq
      split at hp
      · rename_i y z r0
        split at hp
        · rename_i hc
          cases hp
          exact zS_mmin X r hS hRF hRL hcl9 hsl9 hls hdg hq hc ho kk
        · cases hp
      · cases hp
    · rename_i hq
      split at hp
      · rename_i z r0
        split at hp
        · rename_i hc
          cases hp
          exact zS_mabs (v := z) X r hS hRF hRL hcl9 hsl9 hls hdg hq hc ho kk
        · cases hp
      · cases hp
    · cases hp
  | invokespecial x =>
    have e1 : len = 3 := Nat.eq_of_beq_eq_true hlen
    subst e1
    unfold zHeap at hp
    dsimp only at hp
    split at hp
    · rename_i hq
      split at hp
      · rename_i a r0
        split at hp
        · rename_i hc
          cases hp
          exact zS_obj X r hS hRF hRL hls hdg hq hc.1 ho kk
        · cases hp
      · cases hp
    · rename_i hq
      split at hp
      · rename_i y z a r0
        split at hp
        · rename_i hc
          cases hp
          exact zS_exc X r hf hS hRF hRL hcl9 hsl9 hls hdg hq hc ho kk
        · cases hp
      · cases hp
    · cases hp
  | _ =>
    replace hp : none = some (st', h') := hp
    cases hp
theorem zS_vmall (X : zCtx M p s m args meth c) (r : zRel D s A fz xs L H ρ ws tys h) (hf : zFz fz xs L A s s.heap) (hS : va_S A s.heap H locs) (hst : l.stackTraces = false) (hRF : 16 ≤ R.frames) (hRL : 12000 ≤ R.locals) (hcl : cells + 3 ≤ R.cells) (hsl : slots + 400 ≤ R.slots) (hls : lr.size = mLoc M) {i : Instr} (hdg : decode (mCode M) pc = .ok (i, len)) (hlen : zLenOk i len = true) {E : Nat} (hp : zVm (mCls M) i st h = some E) (ho : ∀ v ∈ st, zOk (gN h) v)
    (kk : zTk p l e R s m args below meth c cells slots Q D A fz xs L ρ ws tys locs h E pc lr) : W p l e R s m args below meth c H locs cells slots Q (F0 m pc lr (st.map (zv ρ))) := by
  cases i with
  | iaload =>
    have e1 : len = 1 := Nat.eq_of_beq_eq_true hlen
    subst e1
    unfold zVm at hp
    dsimp only at hp
    split at hp
    · rename_i i a r0
      split at hp
      · rename_i hk
        cases hp
        exact zS_ialdZ X r hf hS hst hRF hRL hcl hsl hls hdg hk.2.2.1 hk.2.1 hk.2.2.2 hk.1 ho kk
      · cases hp
    · cases hp
  | baload =>
    have e1 : len = 1 := Nat.eq_of_beq_eq_true hlen
    subst e1
    unfold zVm at hp
    dsimp only at hp
    split at hp
    · rename_i i a r0
      split at hp
      · rename_i hk
        cases hp
        exact zS_baldZ X r hf hS hst hRF hRL hcl hsl hls hdg hk.2.2.1 hk.2.1 hk.2.2.2 hk.1 ho kk
      · cases hp
    · cases hp
  | saload =>
    have e1 : len = 1 := Nat.eq_of_beq_eq_true hlen
    subst e1
    unfold zVm at hp
    dsimp only at hp
    split at hp
    · rename_i i a r0
      split at hp
      · rename_i hk
        cases hp
        exact zS_saldZ X r hf hS hst hRF hRL hcl hsl hls hdg hk.2.2.1 hk.2.1 hk.2.2.2 hk.1 ho kk
      · cases hp
    · cases hp
  | laload =>
    have e1 : len = 1 := Nat.eq_of_beq_eq_true hlen
    subst e1
    unfold zVm at hp
    dsimp only at hp
    split at hp
    · rename_i i a r0
      split at hp
      · rename_i hk
        cases hp
        exact zS_laldZ X r hf hS hst hRF hRL hcl hsl hls hdg hk.2.2.1 hk.2.1 hk.2.2.2 hk.1 ho kk
      · cases hp
    · cases hp
  | iastore =>
    have e1 : len = 1 := Nat.eq_of_beq_eq_true hlen
    subst e1
    unfold zVm at hp
    dsimp only at hp
    split at hp
    · rename_i v i a r0
      split at hp
      · rename_i hk
        cases hp
        exact zS_iastZ X r hf hS hst hRF hRL hcl hsl hls hdg hk.2.2.1 hk.2.1 hk.2.2.2 hk.1 ho kk
      · cases hp
    · cases hp
  | bastore =>
    have e1 : len = 1 := Nat.eq_of_beq_eq_true hlen
    subst e1
    unfold zVm at hp
    dsimp only at hp
    split at hp
    · rename_i v i a r0
      split at hp
      · rename_i hk
        cases hp
        exact zS_bastZ X r hf hS hst hRF hRL hcl hsl hls hdg hk.2.2.1 hk.2.1 hk.2.2.2 hk.1 ho kk
      · cases hp
    · cases hp
  | sastore =>
    have e1 : len = 1 := Nat.eq_of_beq_eq_true hlen
    subst e1
    unfold zVm at hp
    dsimp only at hp
    split at hp
    · rename_i v i a r0
      split at hp
      · rename_i hk
        cases hp
        exact zS_sastZ X r hf hS hst hRF hRL hcl hsl hls hdg hk.2.2.1 hk.2.1 hk.2.2.2 hk.1 ho kk
      · cases hp
    · cases hp
  | lastore =>
    have e1 : len = 1 := Nat.eq_of_beq_eq_true hlen
    subst e1
    unfold zVm at hp
    dsimp only at hp
    split at hp
    · rename_i v i a r0
      split at hp
      · rename_i hk
        cases hp
        exact zS_lastZ X r hf hS hst hRF hRL hcl hsl hls hdg hk.2.2.1 hk.2.1 hk.2.2.2 hk.1 ho kk
      · cases hp
    · cases hp
  | newarray t =>
    have e1 : len = 2 := Nat.eq_of_beq_eq_true hlen
    subst e1
    unfold zVm at hp
    dsimp only at hp
    split at hp
    · rename_i n r0
      split at hp
      · rename_i hk
        cases hp
        exact zS_newarrayZ X r hf hS hst hRF hRL hcl hsl hls hdg hk.2 hk.1 ho kk
      · cases hp
    · cases hp
  | invokestatic x =>
    have e1 : len = 3 := Nat.eq_of_beq_eq_true hlen
    subst e1
    unfold zVm at hp
    dsimp only at hp
    split at hp
    · rename_i hq
      split at hp
      · rename_i n dp b sp a r0
        split at hp
        · rename_i hc
          cases hp
          exact zS_cpyZ X r hf hS hst hRF hRL hcl hsl hls hdg hq hc.1 hc.2.1 hc.2.2.1 hc.2.2.2 ho kk
        · cases hp
      · cases hp
    · cases hp
  | _ =>
    replace hp : none = some E := hp
    cases hp
end ZHA
