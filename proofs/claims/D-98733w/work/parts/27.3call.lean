/-! ===== SOUNDNESS, 12: from state to state; ends; handlers; calls ===== -/
set_option maxRecDepth 100000
section ZM
variable {D : va_G} {s U : State} {A : Nat → Prop} {fz : Nat → Nat} {xs : Nat → Int32} {L : Nat} {H : Heap} {ρ : Nat → Nat} {ws : va_W} {tys : List (ClassId × FieldType)} {h : zHp} {locs : List Loc}
theorem zRel_st (hv : s.vm.Alike U.vm) (r : zRel D s A fz xs L H ρ ws tys h) : zRel D U A fz xs L H ρ ws tys h := ⟨va_K.moved hv r.1, r.2⟩
theorem zFz_go (hW : s.WarmedH U.vm) (hq : ∀ a : Nat, a < s.heap.size → ¬ A a → H[a]? = s.heap[a]?) (hz : s.heap.size ≤ H.size) (f : zFz fz xs L A s s.heap) : zFz fz xs L A U H := by
  obtain ⟨f1, f2, f3, f4, f5, f6, f7, f8, f9, f10⟩ := f
  refine ⟨(va_X.moved hW.alike f1).kept (hq _ f2 f3), Nat.lt_of_lt_of_le f2 hz, f3, f4, fun k hk => ?_, fun k hk => vk_R.warm hW (f6 k hk), (va_Z.moved hW.alike f7).kept hq, (vx_Zq.moved hW.alike f8).kept hq, (vx_Zq.moved hW.alike f9).kept hq, (va_Zq.moved hW.alike f10).kept hq⟩
  obtain ⟨g1, g2, g3, g4⟩ := f5 k hk
  exact ⟨(va_O.moved hW.alike g1).kept hq, (va_OF.moved hW.alike g2).kept hq, (va_OF.moved hW.alike g3).kept hq, (va_T.moved hW.alike g4).kept hq⟩
/-- what a method's start state has -/
def zSt (D : va_G) (A : Nat → Prop) (fz : Nat → Nat) (xs : Nat → Int32) (L : Nat) (ρ : Nat → Nat) (ws : va_W) (tys : List (ClassId × FieldType)) (h : zHp) (U : State) : Prop :=
  (∀ w ∈ lw_nw, va_Nw w U) ∧ (∀ q ∈ zNcT, va_Nc q.1 q.2 U) ∧ zFz fz xs L A U U.heap ∧ (∀ q, U.heap.size ≤ q → A q) ∧ zRel D U A fz xs L U.heap ρ ws tys h
theorem zSt_go (hW : s.WarmedH U.vm) (hU : U.heap = H) (x6 : ∀ w ∈ lw_nw, va_Nw w s) (x7 : ∀ q ∈ zNcT, va_Nc q.1 q.2 s) (hf : zFz fz xs L A s s.heap) (hS : va_S A s.heap H locs) (hA : ∀ q, s.heap.size ≤ q → A q) (r : zRel D s A fz xs L H ρ ws tys h) : zSt D A fz xs L ρ ws tys h U := by
  subst hU
  exact ⟨fun w hw => zNest_warm (List.mem_filter.mp hw).2 hW (x6 w hw), fun q hq => va_Nc.moved hW.alike (x7 q hq), zFz_go hW hS.2.1 hS.1 hf, fun q hq => hA q (Nat.le_trans hS.1 hq), zRel_st hW.alike r⟩
theorem zSt_blind {av : List Value} : FrameBlind (va_Pc av (zSt D A fz xs L ρ ws tys h)) := by
  intro a U g mk q
  obtain ⟨q1, q2, q3, q4, q5, q6⟩ := q
  have hW : U.WarmedH (U.calling g mk a).vm := State.WarmedH.refl U
  exact ⟨q1, fun w hw => zNest_warm (List.mem_filter.mp hw).2 hW (q2 w hw), fun p hp => va_Nc.moved hW.alike (q3 p hp), zFz_go hW (fun _ _ _ => rfl) (Nat.le_refl _) q4, q5, zRel_st hW.alike q6⟩
end ZM
/-! what a method owes -/
def zQc (D : va_G) (A : Nat → Prop) (fz : Nat → Nat) (xs : Nat → Int32) (L : Nat) (ρ0 : Nat → Nat) (n0 : Nat) (r : zRs) : Array Value → State → Outcome → State → Prop := fun _ st oc t =>
  (∃ (v : Option zAv) (h' : zHp) (ρ' : Nat → Nat) (ws' : va_W) (tys' : List (ClassId × FieldType)), r = (Sum.inl v, h') ∧ oc = .returned (v.map (zv ρ')) ∧ (∀ w, v = some w → zOk (gN h') w) ∧ zRel D t A fz xs L t.heap ρ' ws' tys' h' ∧ ∀ a, a < n0 → ρ' a = ρ0 a) ∧ va_F A st t
def zXC (D : va_G) (A : Nat → Prop) (fz : Nat → Nat) (xs : Nat → Int32) (L : Nat) (ρ0 : Nat → Nat) (n0 : Nat) (r : zRs) : Addr → String → State → State → Prop := fun q E st t =>
  (∃ (En : Nat) (a : Option Nat) (h' : zHp) (ρ' : Nat → Nat) (ws' : va_W) (tys' : List (ClassId × FieldType)), r = (Sum.inr (En, a), h') ∧ E = zEx En ∧ En ∈ [2, 3, 30, 31] ∧ (∀ b, a = some b → q = ρ' b ∧ b < gN h') ∧ zRel D t A fz xs L t.heap ρ' ws' tys' h' ∧ ∀ a, a < n0 → ρ' a = ρ0 a) ∧ va_F A st t
abbrev zRm (k mc ms : Nat) : Room := { frames := 16 + k, cells := mc, slots := ms, locals := 12000 + 60 * k }
def zWs (M : zMi) : List Cond := match mHnd M with
  | [] => ws_ (mName M) (mCode M) (mLoc M) (mRet M)
  | q :: t => wsW_ (mName M) (mCode M) (mLoc M) (mRet M) (q :: t)
theorem zWs_0 {M : zMi} (hh : mHnd M = []) : zWs M = ws_ (mName M) (mCode M) (mLoc M) (mRet M) := by
  unfold zWs
  rw [hh]
theorem zWs_W {M : zMi} (hh : mHnd M ≠ []) : zWs M = wsW_ (mName M) (mCode M) (mLoc M) (mRet M) (mHnd M) := by
  unfold zWs
  split
  · rename_i e
    exact absurd e hh
  · rename_i e
    rw [e]
/-- the handlers' entries are known -/
def zMH (M : zMi) : Prop := ∀ q ∈ mHnd M, ∃ l, zLk2 zCatT (mCls M) q.2.2.2 = some l
/-- a point of a run -/
def zPt (D : va_G) (s : State) (A : Nat → Prop) (fz : Nat → Nat) (xs : Nat → Int32) (L : Nat) (ρ0 : Nat → Nat) (n0 Kc Ks : Nat) (H : Heap) (locs : List Loc) (cells slots : Nat) (ρ : Nat → Nat) (ws : va_W) (tys : List (ClassId × FieldType)) (h : zHp) : Prop :=
  zRel D s A fz xs L H ρ ws tys h ∧ va_S A s.heap H locs ∧ (cells + Kc = gC h ∧ slots + Ks = gS h) ∧ (∀ a, a < n0 → ρ a = ρ0 a) ∧ n0 ≤ gN h
def zKr (p : Program) (l : Launch) (e : Env) (R : Room) (s : State) (m : MethodId) (args : Array Value) (below : List Frame) (meth : Method) (c : Code) (Q : State → Prop) (D : va_G) (A : Nat → Prop) (fz : Nat → Nat) (xs : Nat → Int32) (L : Nat) (ρ0 : Nat → Nat) (n0 Kc Ks : Nat) (M : zMi) (r : zRs) : Prop :=
  ∀ (v : Option zAv) (h' : zHp) (H' : Heap) (locs' : List Loc) (cells' slots' : Nat) (ρ' : Nat → Nat) (ws' : va_W) (tys' : List (ClassId × FieldType)) (lr' : Array Slot) (pc' : Nat) (i : Instr) (st' : List zAv), r = (Sum.inl v, h') → decode (mCode M) pc' = .ok (i, 1) → zRet M i st' = some v → zPt D s A fz xs L ρ0 n0 Kc Ks H' locs' cells' slots' ρ' ws' tys' h' → (∀ w ∈ st', zOk (gN h') w) → W p l e R s m args below meth c H' locs' cells' slots' Q (F0 m pc' lr' (st'.map (zv ρ')))
def zKx (p : Program) (l : Launch) (e : Env) (R : Room) (s : State) (m : MethodId) (args : Array Value) (below : List Frame) (meth : Method) (c : Code) (Q : State → Prop) (D : va_G) (A : Nat → Prop) (fz : Nat → Nat) (xs : Nat → Int32) (L : Nat) (ρ0 : Nat → Nat) (n0 Kc Ks : Nat) (M : zMi) (r : zRs) : Prop :=
  ∀ (E : Nat) (a : Option Nat) (h' : zHp) (H' : Heap) (locs' : List Loc) (cells' slots' : Nat) (ρ' : Nat → Nat) (ws' : va_W) (tys' : List (ClassId × FieldType)) (lr' : Array Slot) (pc' : Nat) (rs : List Value) (q9 : Addr) (ce : Cell), r = (Sum.inr (E, a), h') → zHand (mCls M) pc' E (mHnd M) = none → E ∈ [2, 3, 30, 31] → zPt D s A fz xs L ρ0 n0 Kc Ks H' locs' cells' slots' ρ' ws' tys' h' → (∀ b, a = some b → q9 = ρ' b ∧ b < gN h') → H'[q9]? = some ce → ce.vm = .none → s.vm.findClass (zEx E) = some ce.cls → vx_W p l e R s m args below meth c H' locs' cells' slots' Q (F0 m pc' lr' rs) q9
def zGo (p : Program) (l : Launch) (e : Env) (R : Room) (s : State) (m : MethodId) (args : Array Value) (below : List Frame) (meth : Method) (c : Code) (Q : State → Prop) (D : va_G) (A : Nat → Prop) (fz : Nat → Nat) (xs : Nat → Int32) (L : Nat) (ρ0 : Nat → Nat) (n0 Kc Ks : Nat) (M : zMi) (d : Nat) (r : zRs) : Prop :=
  zCtx M p s m args meth c ∧ zMH M ∧ zFz fz xs L A s s.heap ∧ (∀ q, s.heap.size ≤ q → A q) ∧ (16 + zRank M d ≤ R.frames ∧ 12000 + 60 * zRank M d ≤ R.locals) ∧ (gC r.2 ≤ R.cells + Kc ∧ gS r.2 ≤ R.slots + Ks) ∧ zKr p l e R s m args below meth c Q D A fz xs L ρ0 n0 Kc Ks M r ∧ zKx p l e R s m args below meth c Q D A fz xs L ρ0 n0 Kc Ks M r
/-- what is shown of runs of n steps -/
def zIH (l : Launch) (D : va_G) (A : Nat → Prop) (fz : Nat → Nat) (xs : Nat → Int32) (L n : Nat) : Prop :=
  ∀ (M : zMi) (d pc : Nat) (ls : List (Option zAv)) (st : List zAv) (h : zHp) (r : zRs), zRun n M d pc ls st h = some r → ∀ (p : Program) (e : Env) (R : Room) (s : State) (m : MethodId) (args : Array Value) (below : List Frame) (meth : Method) (c : Code) (H : Heap) (locs : List Loc) (cells slots : Nat) (Q : State → Prop) (ρ0 : Nat → Nat) (n0 Kc Ks : Nat) (ρ : Nat → Nat) (ws : va_W) (tys : List (ClassId × FieldType)) (lr : Array Slot), zGo p l e R s m args below meth c Q D A fz xs L ρ0 n0 Kc Ks M d r → zPt D s A fz xs L ρ0 n0 Kc Ks H locs cells slots ρ ws tys h → zLR ρ (gN h) (mLoc M) ls lr → (∀ v ∈ st, zOk (gN h) v) → W p l e R s m args below meth c H locs cells slots Q (F0 m pc lr (st.map (zv ρ)))
/-! handlers -/
theorem zHand_none {C pc E : Nat} : ∀ {hs : List (Nat × Nat × Nat × Nat)}, zHand C pc E hs = none → ∀ z ∈ hs, ¬ (z.1 ≤ pc ∧ pc < z.2.1) ∨ zCat C z.2.2.2 E = false
  | [], _, z, hz => by cases hz
  | q :: r, e, z, hz => by
    unfold zHand at e
    split at e
    · cases e
    · rename_i hn
      rcases List.mem_cons.mp hz with h9 | h9
      · subst h9
        by_cases hc : zCat C z.2.2.2 E = true
        · exact Or.inl (fun h8 => hn ⟨h8.1, h8.2, hc⟩)
        · exact Or.inr (by cases h7 : zCat C z.2.2.2 E with
            | true => exact absurd h7 hc
            | false => rfl)
      · exact zHand_none e z h9
theorem zHand_spec {C pc E t : Nat} : ∀ {hs : List (Nat × Nat × Nat × Nat)}, zHand C pc E hs = some t → ∃ (pre : List (Nat × Nat × Nat × Nat)) (q : Nat × Nat × Nat × Nat) (suf : List (Nat × Nat × Nat × Nat)), hs = pre ++ q :: suf ∧ q.2.2.1 = t ∧ (q.1 ≤ pc ∧ pc < q.2.1) ∧ zCat C q.2.2.2 E = true ∧ ∀ z ∈ pre, ¬ (z.1 ≤ pc ∧ pc < z.2.1) ∨ zCat C z.2.2.2 E = false
  | [], e => by cases e
  | q :: r, e => by
    unfold zHand at e
    split at e
    · rename_i hc
      exact ⟨[], q, r, rfl, Option.some.inj e, ⟨hc.1, hc.2.1⟩, hc.2.2, fun z hz => by cases hz⟩
    · rename_i hn
      obtain ⟨pre, q9, suf, h1, h2, h3, h4, h5⟩ := zHand_spec e
      refine ⟨q :: pre, q9, suf, by rw [h1]; rfl, h2, h3, h4, fun z hz => ?_⟩
      rcases List.mem_cons.mp hz with h9 | h9
      · subst h9
        by_cases hc : zCat C z.2.2.2 E = true
        · exact Or.inl (fun h8 => hn ⟨h8.1, h8.2, hc⟩)
        · exact Or.inr (by cases h7 : zCat C z.2.2.2 E with
            | true => exact absurd h7 hc
            | false => rfl)
      · exact h5 z h9
theorem zCov_no {q : Nat × Nat × Nat × Nat} {pc : Nat} (h : ¬ (q.1 ≤ pc ∧ pc < q.2.1)) : covers (⟨q.1, q.2.1, q.2.2.1, q.2.2.2⟩ : ExceptionTableEntry) pc = false := by
  show (decide (q.1 ≤ pc) && decide (pc < q.2.1)) = false
  rw [← Bool.decide_and]
  exact decide_eq_false h
theorem zCov_yes {q : Nat × Nat × Nat × Nat} {pc : Nat} (h : q.1 ≤ pc ∧ pc < q.2.1) : covers (⟨q.1, q.2.1, q.2.2.1, q.2.2.2⟩ : ExceptionTableEntry) pc = true := by
  show (decide (q.1 ≤ pc) && decide (pc < q.2.1)) = true
  rw [← Bool.decide_and]
  exact decide_eq_true h
section ZN
variable {p : Program} {l : Launch} {e : Env} {R : Room} {s : State} {m : MethodId} {args : Array Value} {below : List Frame} {meth : Method} {c : Code} {H : Heap} {locs : List Loc} {cells slots : Nat} {Q : State → Prop}
variable {D : va_G} {A : Nat → Prop} {fz : Nat → Nat} {xs : Nat → Int32} {L n : Nat} {ρ ρ0 : Nat → Nat} {n0 Kc Ks : Nat} {ws : va_W} {tys : List (ClassId × FieldType)} {h h' : zHp}
variable {M : zMi} {d pc : Nat} {ls : List (Option zAv)} {st st' rest : List zAv} {lr : Array Slot} {len : Nat} {r : zRs}
/-- rows of the table that don't take it -/
theorem zS_pass (X : zCtx M p s m args meth c) (hMh : zMH M) {E : Nat} (hE : E ∈ [2, 3, 30, 31]) {q : Nat × Nat × Nat × Nat} (hq : q ∈ mHnd M) (hn : ¬ (q.1 ≤ pc ∧ pc < q.2.1) ∨ zCat (mCls M) q.2.2.2 E = false) : covers (⟨q.1, q.2.1, q.2.2.1, q.2.2.2⟩ : ExceptionTableEntry) pc = false ∨ (q.2.2.2 ≠ 0 ∧ ∃ nm : String, (Cond.classLink (zOwn (mCls M)) q.2.2.2 nm).before args s = true ∧ va_Nc (zEx E) nm s) := by
  rcases hn with hn | hn
  · exact Or.inl (zCov_no hn)
  · obtain ⟨z0, nm, l2, f2⟩ := zHFa (mCls M) q.2.2.2 (hMh q hq)
    exact Or.inr ⟨z0, nm, X.2.2.2.2.1 _ l2, X.2.2.2.2.2.2.1 _ ((f2 E hE).2 hn)⟩
theorem zS_thr (ih : zIH l D A fz xs L n) (G : zGo p l e R s m args below meth c Q D A fz xs L ρ0 n0 Kc Ks M d r) (P : zPt D s A fz xs L ρ0 n0 Kc Ks H locs cells slots ρ ws tys h) (hl : zLR ρ (gN h) (mLoc M) ls lr) {E : Nat} {a : Option Nat} (he : zThrow (zRun n) M d pc ls h E a = some r) (hE : E ∈ [2, 3, 30, 31]) {q9 : Addr} {ce : Cell} {rs : List Value} (hab : ∀ b, a = some b → q9 = ρ b ∧ b < gN h) (hcell : H[q9]? = some ce) (hv : ce.vm = .none) (hcl : s.vm.findClass (zEx E) = some ce.cls) : vx_W p l e R s m args below meth c H locs cells slots Q (F0 m pc lr rs) q9 := by
  have G0 := G
  obtain ⟨X, hMh, hf, hA, hR, hB, kr, kx⟩ := G
  unfold zThrow at he
  split at he
  · rename_i hn
    exact kx E a h H locs cells slots ρ ws tys lr pc rs q9 ce (Option.some.inj he).symm hn hE P hab hcell hv hcl
  · rename_i t ht
    obtain ⟨pre, q, suf, h1, h2, h3, h4, h5⟩ := zHand_spec ht
    subst h2
    have hne : mHnd M ≠ [] := fun h9 => by
      rw [h9] at h1
      cases pre <;> cases h1
    have htab : c.exceptionTable.toList = tableOf (mHnd M) := X.2.2.2.2.2.2.2.2.2.2 hne
    have hqm : q ∈ mHnd M := by
      rw [h1]
      exact List.mem_append_right _ List.mem_cons_self
    obtain ⟨hz0, nm, hlk, hfac⟩ := zHFa (mCls M) q.2.2.2 (hMh q hqm)
    refine vx_catch (own := zOwn (mCls M)) (name := nm) (E := zEx E) X.2.2.2.1 (tableOf pre) ⟨q.1, q.2.1, q.2.2.1, q.2.2.2⟩ (tableOf suf) ?_ ?_ (zCov_yes h3) hz0 (X.2.2.2.2.1 _ hlk) (va_Nw.use rfl (X.2.2.2.2.2.1 _ ((hfac E hE).1 h4))) hcell hv hcl ?_
    · rw [htab, h1]
      simp [tableOf]
    · intro z hz
      obtain ⟨q2, hq2, rfl⟩ := List.mem_map.mp hz
      exact zS_pass X hMh hE (by rw [h1]; exact List.mem_append_left _ hq2) (h5 q2 hq2)
    · have fin : ∀ (x len : Nat), zRun n M d (q.2.2.1 + len) (zSet1 ls x (a.map fun b => .inr (.inr (some b)))) [] h = some r → ∀ lr' : Array Slot, lv_has lr' (mLoc M) ((x, Value.ref q9) :: (zAsF ρ 0 ls).filter (fun q => !(q.1 == x) && !(q.1 + 1 == x && q.2.category == 2))) → W p l e R s m args below meth c H locs cells slots Q (F0 m (q.2.2.1 + len) lr' []) := by
        intro x len e9 lr' hh
        refine ih _ _ _ _ _ _ _ e9 _ _ _ _ _ _ _ _ _ _ _ _ _ _ ρ0 n0 Kc Ks ρ ws tys lr' G0 P ?_ (fun v hv => by cases hv)
        cases a with
        | none => exact zLR_set1n hl hh
        | some b =>
          obtain ⟨y1, y2⟩ := hab b rfl
          exact zLR_set1 (v := .inr (.inr (some b))) hl y2 (by rw [y1] at hh; exact hh)
      split at he
      · rename_i x len hd
        split at he
        · rename_i hx
          obtain ⟨hx1, hx2⟩ := hx
          subst hx2
          rw [hl.1] at hx1
          exact lv_astore_n X.1 X.2.1 hd rfl hl.2.1 hx1 rfl (fin x.val 1 he)
        · cases he
      · rename_i x len hd
        split at he
        · rename_i hx
          obtain ⟨hx1, hx2⟩ := hx
          subst hx2
          rw [hl.1] at hx1
          exact lv_astore X.1 X.2.1 hd hl.2.1 hx1 rfl (fin x 2 he)
        · cases he
      · cases he
/-! a method's end -/
theorem zCh_eq (v : Int32) : v.toUInt32.toUInt16.toUInt32 = v.toUInt32 % 65536 := by
  apply UInt32.toNat_inj.mp
  simp
theorem zS_ret {Qc : Array Value → State → Outcome → State → Prop} {free : Addr → Prop} (X : zCtx M p s m args meth c) {i : Instr} {v : Option zAv} (hz : zRet M i st = some v) (hdg : decode (mCode M) pc = .ok (i, 1)) (hq : ∀ t : State, t.heap = H → s.WarmedH t.vm → Qc args s (.returned (v.map (zv ρ))) t) (hf : ∀ q ∈ locs, free q.base) : W p l e R s m args below meth c H locs cells slots (MQ below Qc args s cells slots free) (F0 m pc lr (st.map (zv ρ))) := by
  have hx := X.1
  have hb := X.2.1
  have hr : meth.sig.returnType = mRet M := X.2.2.2.2.2.2.2.2.1
  have hlk : meth.locks = false := X.2.2.2.2.2.2.2.2.2.1
  unfold zRet at hz
  split at hz
  · rename_i x
    split at hz
    · rename_i h9
      cases hz
      exact W.iret hx hb (hr.trans h9) hq hf hdg hlk
    · rename_i h9
      split at hz
      · rename_i h01
        cases hz
        refine W.zret (ty := .boolean) hx hb (hr.trans h9) ?_ hq hf hdg hlk
        rcases h01 with h | h <;> (subst h; rfl)
      · cases hz
    · rename_i h9
      split at hz
      · rename_i h01
        cases hz
        refine W.zret (ty := .byte) hx hb (hr.trans h9) ?_ hq hf hdg hlk
        have h2 : Int32.ofInt (zB x) = Int32.ofInt x := congrArg Int32.ofInt h01
        unfold zB at h2
        rw [Int32.ofInt_toInt] at h2
        exact congrArg Value.int h2
      · cases hz
    · rename_i h9
      split at hz
      · rename_i h01
        cases hz
        refine W.zret (ty := .char) hx hb (hr.trans h9) ?_ hq hf hdg hlk
        have h2 : Int32.ofInt (zCh x) = Int32.ofInt x := congrArg Int32.ofInt h01
        unfold zCh at h2
        rw [Int32.ofInt_toInt] at h2
        show Value.int _ = _
        rw [zCh_eq]
        exact congrArg Value.int h2
      · cases hz
    · cases hz
  · rename_i x
    split at hz
    · rename_i h9
      cases hz
      exact W.lret hx hb (hr.trans h9) hq hf hdg hlk
    · cases hz
  · rename_i x
    split at hz
    · rename_i n9 h9
      cases hz
      refine W.aret hx hb (hr.trans h9) (Or.inl ⟨_, rfl⟩) ?_ hq hf hdg hlk
      cases x with
      | none => exact Or.inl rfl
      | some a => exact Or.inr ⟨_, rfl⟩
    · rename_i n9 h9
      cases hz
      refine W.aret hx hb (hr.trans h9) (Or.inr ⟨_, rfl⟩) ?_ hq hf hdg hlk
      cases x with
      | none => exact Or.inl rfl
      | some a => exact Or.inr ⟨_, rfl⟩
    · cases hz
  · split at hz
    · rename_i h9
      cases hz
      exact W.vret hx hb (hr.trans h9) hq hf hdg hlk
    · cases hz
  · cases hz
theorem zRet_st {M : zMi} {i : Instr} {st : List zAv} {v : Option zAv} (hz : zRet M i st = some v) : st = v.toList := by
  unfold zRet at hz
  split at hz <;> (repeat' (split at hz)) <;> first | (cases hz; rfl) | cases hz
end ZN
