/-! ===== SOUNDNESS, 4: instructions on the heap ===== -/
set_option maxRecDepth 100000
/-- an activation of the method M -/
def zCtx (M : zMi) (p : Program) (s : State) (m : MethodId) (args : Array Value) (meth : Method) (c : Code) : Prop :=
  p.tables.exec = Jvm.exec ∧ c.code = mCode M ∧ c.maxLocals = mLoc M ∧ s.vm.findClass (zOwn (mCls M)) = some m.cls ∧ (∀ w ∈ lw_all, w.before args s = true) ∧ (∀ w ∈ lw_nw, va_Nw w s) ∧ (∀ q ∈ zNcT, va_Nc q.1 q.2 s) ∧ (mIni M = true → meth.name = "<init>") ∧ meth.sig.returnType = mRet M ∧ meth.locks = false ∧ (mHnd M ≠ [] → c.exceptionTable.toList = tableOf (mHnd M))
theorem zFld_F {C x ci : Nat} {q : Nat × Nat × Bool} (h : zFld C x ci = some q) : zFFact C x ci q := by
  obtain ⟨u, v, h1, h2, h3⟩ := zLk3_mem h
  exact zFF (C, u) h1 (x, v) h2 (ci, q) h3
theorem zCls_at {ci : Nat} {r : vw_C × (Nat → FieldType) × Nat} (h : zCls[ci]? = some r) : zcl[ci]? = some (r.1.1, r.1.2.1, r.1.2.2) ∧ zClF r := by
  refine ⟨?_, zCls_ok r (List.mem_of_getElem? h)⟩
  show (zCls.map (fun r => r.1))[ci]? = _
  rw [List.getElem?_map, h]
  rfl
theorem zCls_lt {ci : Nat} {r : vw_C × (Nat → FieldType) × Nat} (h : zCls[ci]? = some r) : ci < 16 := (List.getElem?_eq_some_iff.mp h).1
theorem zK0_odd {L a c : Nat} (h : zK0 L a = (0, c)) : a % 2 = 1 ∧ c = 16 := by
  unfold zK0 at h
  split at h
  · cases h
  · split at h
    · rename_i e
      cases h
      exact ⟨e, rfl⟩
    · cases h
theorem zK0_int {L a n : Nat} (h : zK0 L a = (1, n)) : a = 0 ∧ n = L := by
  unfold zK0 at h
  split at h
  · rename_i e
    cases h
    exact ⟨e, rfl⟩
  · split at h <;> cases h
theorem zK0_byte {L a n : Nat} (h : zK0 L a = (2, n)) : a ≠ 0 ∧ a % 2 = 0 ∧ n = (zTx ((a - 2) / 2)).2.2.2.length := by
  unfold zK0 at h
  split at h
  · cases h
  · rename_i e
    split at h
    · cases h
    · rename_i e2
      cases h
      exact ⟨e, by omega, rfl⟩
theorem zK0_le {L a k n : Nat} (h : zK0 L a = (k, n)) : k ≤ 2 := by
  unfold zK0 at h
  split at h
  · cases h
    decide
  · split at h <;> (cases h; decide)
theorem zK_of {h : zHp} {a k : Nat} (e : (gK h a).1 = k) : gK h a = (k, (gK h a).2) := by rw [← e]
theorem clampN {n : Int} (h0 : 0 ≤ n) (h1 : n ≤ 100000) : (Int32.ofInt n).toNatClampNeg = n.toNat := ofI_clamp ⟨by omega, by omega⟩ h0
theorem ofI_lit (x : Int32) (n : Int) (h : x = Int32.ofInt n) : x = Int32.ofInt n := h
section ZH
variable {p : Program} {l : Launch} {e : Env} {R : Room} {s : State} {m : MethodId} {args : Array Value} {below : List Frame} {meth : Method} {c : Code} {H : Heap} {locs : List Loc} {cells slots : Nat} {Q : State → Prop}
variable {D : va_G} {A : Nat → Prop} {fz : Nat → Nat} {xs : Nat → Int32} {L : Nat} {ρ : Nat → Nat} {ws : va_W} {tys : List (ClassId × FieldType)} {h h' : zHp}
variable {M : zMi} {pc : Nat} {st st' : List zAv} {lr : Array Slot} {len : Nat}
/-- how it goes on: the heap h has become h', the stack st' -/
def zKk (p : Program) (l : Launch) (e : Env) (R : Room) (s : State) (m : MethodId) (args : Array Value) (below : List Frame) (meth : Method) (c : Code) (cells slots : Nat) (Q : State → Prop) (D : va_G) (A : Nat → Prop) (fz : Nat → Nat) (xs : Nat → Int32) (L : Nat) (ρ : Nat → Nat) (h h' : zHp) (st' : List zAv) (F : List Value → JFrame) : Prop :=
  ∀ (H' : Heap) (locs' : List Loc) (ρ' : Nat → Nat) (ws' : va_W) (tys' : List (ClassId × FieldType)) (c' s' : Nat), (∀ a, a < gN h → ρ' a = ρ a) → gN h ≤ gN h' → zRel D s A fz xs L H' ρ' ws' tys' h' → va_S A s.heap H' locs' → (∀ v ∈ st', zOk (gN h') v) → c' + gC h = cells + gC h' → s' + gS h = slots + gS h' → W p l e R s m args below meth c H' locs' c' s' Q (F (st'.map (zv ρ')))
theorem zKk_same (kk : zKk p l e R s m args below meth c cells slots Q D A fz xs L ρ h h' st' (F0 m (pc + len) lr)) (hn : gN h' = gN h) (hc : gC h' = gC h) (hs : gS h' = gS h) (r : zRel D s A fz xs L H ρ ws tys h') (hS : va_S A s.heap H locs) (ho : ∀ v ∈ st', zOk (gN h) v) : W p l e R s m args below meth c H locs cells slots Q (F0 m (pc + len) lr (st'.map (zv ρ))) :=
  kk H locs ρ ws tys cells slots (fun _ _ => rfl) (by rw [hn]; exact Nat.le_refl _) r hS (by rw [hn]; exact ho) (by rw [hc]) (by rw [hs])
theorem zOk_field (w : zWf xs L h) (ty a j : Nat) : zOk (gN h) (zFVal ty h a j) := by
  have hJ : zOk (gN h) (.inr (.inl (gJ h a j))) := w.2.2.1 a j
  have hR : zOk (gN h) (.inr (.inr (gR h a j))) := by
    cases e9 : gR h a j with
    | none => trivial
    | some b => exact w.2.2.2.1 a j b e9
  unfold zFVal
  split
  · exact hJ
  · exact hJ
  · exact hR
  · exact hR
  · exact w.2.1 a j
theorem zOk_ref (w : zWf xs L h) (a : Nat) (j : Int) : zOk (gN h) (.inr (.inr (gR h a j))) := by
  cases e9 : gR h a j with
  | none => trivial
  | some b => exact w.2.2.2.1 a j b e9
theorem zFVal_v {ty : Nat} {t : FieldType} {a j : Nat} (ht : ty = zTag t ∨ ty = 10 + zTag t) (h5 : zTag t < 5) : zv ρ (zFVal ty h a j) = zFv ρ h a j t := by
  rcases ht with e9 | e9 <;> subst e9 <;> cases t <;> first | rfl | exact absurd h5 (by decide)
theorem zS_getf (X : zCtx M p s m args meth c) (r : zRel D s A fz xs L H ρ ws tys h) (hf : zFz fz xs L A s s.heap) (hS : va_S A s.heap H locs) {x a : Nat} {q : Nat × Nat × Bool} {rest : List zAv} (hdg : decode (mCode M) pc = .ok (.getfield x, 3)) (hk : (gK h a).1 = 0) (hq : zFld (mCls M) x (gK h a).2 = some q) (ho : ∀ v ∈ Sum.inr (Sum.inr (some a)) :: rest, zOk (gN h) v)
    (kk : zKk p l e R s m args below meth c cells slots Q D A fz xs L ρ h h (zFVal q.2.1 h a q.1 :: rest) (F0 m (pc + 3) lr)) : W p l e R s m args below meth c H locs cells slots Q (F0 m pc lr ((Sum.inr (Sum.inr (some a)) :: rest).map (zv ρ))) := by
  obtain ⟨x1, x2, x3, x4, x5, x6, x7, x8, x9, -, -⟩ := X
  have k9 := zKk_same kk rfl rfl rfl r hS (ok_cons (zOk_field r.2.2.2.2.2.1 _ _ _) (ok_tl ho))
  have hk2 := zK_of hk
  by_cases hz : a < zkc
  · obtain ⟨y1, y2, y3⟩ := r.2.2.2.2.2.1.2.2.2.2.2 a hz
    rw [y1] at hk2
    obtain ⟨z1, z2⟩ := zK0_odd hk2
    obtain ⟨i, hi⟩ : ∃ i, a = 2 * i + 1 := ⟨a / 2, by omega⟩
    have hi32 : i < 32 := by have : a < 65 := hz; omega
    obtain ⟨-, -, -, -, g1, -⟩ := hf
    obtain ⟨-, g2, g3, -⟩ := g1 i hi32
    have ra : ρ a = fz (2 * i + 1) := by rw [r.2.2.2.2.2.2 a hz, hi]
    rw [y1, z2] at hq
    rcases zFld_F hq with ⟨-, ⟨e1, e2⟩ | ⟨e1, e2⟩⟩ | ⟨r9, e1, -⟩
    · rw [e1] at k9
      have hv : zv ρ (zFVal 12 h a 0) = .ref (fz (2 * i + 2)) := by
        show va_rf ((gR h a 0).map ρ) = _
        rw [y3]
        have e3 : zR0 a 0 = some (a + 1) := if_pos ⟨z1, rfl⟩
        rw [e3]
        show Value.ref (ρ (a + 1)) = _
        rw [r.2.2.2.2.2.2 (a + 1) (by have : a < 65 := hz; show a + 1 < 65; omega), hi]
      rw [List.map_cons, hv] at k9
      rw [List.map_cons]
      show W p l e R s m args below meth c H locs cells slots Q (F0 m pc lr (.ref (ρ a) :: _))
      rw [ra]
      exact vk_getf x1 x2 g3 hS x4 (x5 _ e2) (fun _ h9 => h9) hdg k9
    · rw [e1] at k9
      have hv : zv ρ (zFVal 10 h a 1) = .int 0 := by
        show Value.int (Int32.ofInt (gI h a 1)) = _
        rw [y2]
        have e3 : zI0 xs a 1 = 0 := by
          unfold zI0
          rw [if_neg (by omega), if_pos z1]
        rw [e3]
        rfl
      rw [List.map_cons, hv] at k9
      rw [List.map_cons]
      show W p l e R s m args below meth c H locs cells slots Q (F0 m pc lr (.ref (ρ a) :: _))
      rw [ra]
      exact vk_getf x1 x2 g2 hS x4 (x5 _ e2) (fun _ h9 => h9) hdg k9
    · exact absurd (zCls_lt e1) (by decide)
  · have hz : zkc ≤ a := Nat.not_lt.mp hz
    obtain ⟨e9, he, hc⟩ := zRel_at r hz (ok_hd ho)
    obtain ⟨r9, fs, f1, f2, f3, f4⟩ := hc.1 _ hk2
    subst f2
    rcases zFld_F hq with ⟨e1, -⟩ | ⟨r8, e1, e2, e3, e4, e5, e6, e7, e8⟩
    · exact absurd (zCls_lt f1) (by rw [e1]; decide)
    · cases Option.some.inj (e1.symm.trans f1)
      obtain ⟨g1, g2⟩ := zCls_at f1
      have hv := f4 q.1 e3 e2
      rw [List.map_cons, zFVal_v e4 e5] at k9
      rcases e8 with w8 | w8
      · exact va_get x1 x2 x5 g2.1 x4 r.1 r.2.1 _ he g1 q.1 e2 (x5 _ w8) (fun _ h9 => h9) hv hdg k9
      · exact va_getN x1 x2 x5 g2.1 x4 r.1 r.2.1 _ he g1 q.1 e2 (va_Nw.use rfl (x6 _ w8)) (fun _ h9 => h9) hv hdg k9
theorem set_get {fs : List Value} {j i : Nat} {v : Value} (hj : j < fs.length) : (fs.set j v)[i]? = if j = i then some v else fs[i]? := by
  rw [List.getElem?_set]
  by_cases e9 : j = i
  · subst e9
    simp [hj]
  · simp [e9]
/-- what a field's write does to the cell -/
theorem zCe_put {r9 : vw_C × (Nat → FieldType) × Nat} {a ci j : Nat} {fs : List Value} {v : Value} {f1 : Int → Int} {f2 : Int → Int} {f3 : Int → Option Nat} (hk : gK h a = (0, ci)) (e1 : zCls[ci]? = some r9) (hl : fs.length = r9.1.2.2) (hj : j < fs.length) (hh : ∀ i, r9.2.2 ≤ i → i < r9.1.2.2 → fs[i]? = some (zFv ρ h a i (r9.2.1 i)))
    (hkk : gK h' = gK h) (ho : ∀ i : Nat, i ≠ j → ∀ t, zFv ρ h' a i t = zFv ρ h a i t) (hv : zFv ρ h' a j (r9.2.1 j) = v) : zCe ρ tys h' a (.inr (ci, fs.set j v)) := by
  refine ⟨fun cc q => ?_, fun n q => ?_, fun n q => ?_, fun n q => ?_, fun n q => ?_, fun k n q5 q => ?_⟩
  · rw [hkk, hk] at q
    cases q
    refine ⟨r9, _, e1, rfl, by rw [List.length_set]; exact hl, fun i y1 y2 => ?_⟩
    rw [set_get hj]
    by_cases e9 : j = i
    · subst e9
      rw [if_pos rfl, hv]
    · rw [if_neg e9, ho i (fun q => e9 q.symm)]
      exact hh i y1 y2
  · rw [hkk, hk] at q; cases q
  · rw [hkk, hk] at q; cases q
  · rw [hkk, hk] at q; cases q
  · rw [hkk, hk] at q; cases q
  · rw [hkk, hk] at q
    cases q
    exact absurd q5 (by decide)
theorem zS_putf (X : zCtx M p s m args meth c) (r : zRel D s A fz xs L H ρ ws tys h) (hS : va_S A s.heap H locs) {x a : Nat} {q : Nat × Nat × Bool} {v : zAv} {rest : List zAv} (hdg : decode (mCode M) pc = .ok (.putfield x, 3)) (hk : (gK h a).1 = 0) (hz : zkc ≤ a) (hq : zFld (mCls M) x (gK h a).2 = some q) (hi : q.2.2 = true → mIni M = true) (hp : zPutF q.2.1 h a q.1 v = some h') (ho : ∀ w ∈ v :: Sum.inr (Sum.inr (some a)) :: rest, zOk (gN h) w)
    (kk : zKk p l e R s m args below meth c cells slots Q D A fz xs L ρ h h' rest (F0 m (pc + 3) lr)) : W p l e R s m args below meth c H locs cells slots Q (F0 m pc lr ((v :: Sum.inr (Sum.inr (some a)) :: rest).map (zv ρ))) := by
  obtain ⟨x1, x2, x3, x4, x5, x6, x7, x8, x9, -, -⟩ := X
  have hk2 := zK_of hk
  obtain ⟨e9, he, hc⟩ := zRel_at r hz (ok_hd (ok_tl ho))
  obtain ⟨r9, fs, f1, f2, f3, f4⟩ := hc.1 _ hk2
  subst f2
  rcases zFld_F hq with ⟨e1, -⟩ | ⟨r8, e1, e2, e3, e4, e5, e6, e7, e8⟩
  · exact absurd (zCls_lt f1) (by rw [e1]; decide)
  · cases Option.some.inj (e1.symm.trans f1)
    obtain ⟨g1, g2⟩ := zCls_at f1
    obtain ⟨j, ty, fin⟩ := q
    dsimp only at hq hi hp e2 e3 e4 e5 e6 e7 e8
    have hjl : j < fs.length := by rw [f3]; exact e2
    have wf := r.2.2.2.2.2.1
    -- what is written, its type, the new heap
    have key : ty < 10 ∧ gN h' = gN h ∧ gC h' = gC h ∧ gS h' = gS h ∧ gK h' = gK h ∧ (∀ b, b ≠ a → gI h' b = gI h b) ∧ (∀ b, b ≠ a → gJ h' b = gJ h b) ∧ (∀ b, b ≠ a → gR h' b = gR h b) ∧ zWf xs L h' ∧ (∀ i : Nat, i ≠ j → ∀ t, zFv ρ h' a i t = zFv ρ h a i t) ∧ zFv ρ h' a j (r9.2.1 j) = zv ρ v ∧ narrow (r9.2.1 j) (zv ρ v) = zv ρ v ∧ fits (r9.2.1 j) (zv ρ v) = true := by
      have cne : ∀ i : Nat, i ≠ j → (i : Int) ≠ (j : Int) := fun i hi9 q9 => hi9 (by omega)
      have ovI : ∀ y : Int, (∀ i : Nat, i ≠ j → ∀ t, zFv ρ (sI h a j y) a i t = zFv ρ h a i t) := fun y i hi9 t => by
        have e0 : gI (sI h a j y) a i = gI h a i := by
          show gI (sIA h a _) a i = _
          rw [sIA_eq]
          exact if_neg (cne i hi9)
        cases t <;> first | rfl | (show Value.int (Int32.ofInt (gI (sI h a j y) a i)) = Value.int (Int32.ofInt (gI h a i)); rw [e0])
      have niI : ∀ y : Int, gI (sI h a j y) a j = y := fun y => by
        show gI (sIA h a _) a j = _
        rw [sIA_eq]
        exact if_pos rfl
      unfold zPutF at hp
      split at hp
      · rename_i y
        cases hp
        have et : r9.2.1 j = .int := by
          rcases e4 with e4 | e4
          · cases e9 : r9.2.1 j <;> rw [e9] at e4 <;> first | rfl | (exfalso; revert e4; simp [zTag])
          · exact absurd e4 (by omega)
        rw [et]
        refine ⟨by decide, rfl, rfl, rfl, rfl, fun b hb => sIA_ne hb, fun _ _ => rfl, fun _ _ => rfl, zWf_IA wf hz (zU_in (wf.2.1 a) (ok_hd ho)), ovI y, ?_, rfl, rfl⟩
        show Value.int (Int32.ofInt (gI (sI h a j y) a j)) = _
        rw [niI]
        rfl
      · rename_i y
        split at hp
        · rename_i hy
          cases hp
          have et : r9.2.1 j = .boolean := by
            rcases e4 with e4 | e4
            · cases e9 : r9.2.1 j <;> rw [e9] at e4 <;> first | rfl | (exfalso; revert e4; simp [zTag])
            · exact absurd e4 (by omega)
          rw [et]
          refine ⟨by decide, rfl, rfl, rfl, rfl, fun b hb => sIA_ne hb, fun _ _ => rfl, fun _ _ => rfl, zWf_IA wf hz (zU_in (wf.2.1 a) (ok_hd ho)), ovI y, ?_, ?_, ?_⟩
          · show Value.int (Int32.ofInt (gI (sI h a j y) a j)) = _
            rw [niI]
            rfl
          · rcases hy with rfl | rfl <;> rfl
          · rcases hy with rfl | rfl <;> rfl
        · cases hp
      · rename_i y
        cases hp
        have et : r9.2.1 j = .long := by
          rcases e4 with e4 | e4
          · cases e9 : r9.2.1 j <;> rw [e9] at e4 <;> first | rfl | (exfalso; revert e4; simp [zTag])
          · exact absurd e4 (by omega)
        rw [et]
        refine ⟨by decide, rfl, rfl, rfl, rfl, fun _ _ => rfl, fun b hb => sJA_ne hb, fun _ _ => rfl, zWf_JA wf (zU_in (wf.2.2.1 a) (ok_hd ho)), fun i hi9 t => ?_, ?_, rfl, rfl⟩
        · have e0 : gJ (sJ h a j y) a i = gJ h a i := by
            show gJ (sJA h a _) a i = _
            rw [sJA_eq]
            exact if_neg (cne i hi9)
          cases t <;> first | rfl | (show Value.long (Int64.ofInt (gJ (sJ h a j y) a i)) = Value.long (Int64.ofInt (gJ h a i)); rw [e0])
        · show Value.long (Int64.ofInt (gJ (sJ h a j y) a j)) = _
          have e0 : gJ (sJ h a j y) a j = y := by
            show gJ (sJA h a _) a j = _
            rw [sJA_eq]
            exact if_pos rfl
          rw [e0]
          rfl
      · rename_i y
        cases hp
        have et : (∃ n9, r9.2.1 j = .object n9) ∨ ∃ t9, r9.2.1 j = .array t9 := by
          rcases e4 with e4 | e4
          · cases e9 : r9.2.1 j <;> rw [e9] at e4 <;> first | exact Or.inl ⟨_, rfl⟩ | exact Or.inr ⟨_, rfl⟩ | exact absurd e4 (by decide)
          · exact absurd e4 (by omega)
        have hwf : zWf xs L (sR h a j y) := by
          refine zWf_RA wf hz (fun i b hb => ?_) (fun q9 => absurd q9 (by rw [hk]; decide))
          unfold zU at hb
          split at hb
          · cases y with
            | none => cases hb
            | some y9 =>
              cases hb
              exact ok_hd ho
          · exact wf.2.2.2.1 a i b hb
        have hov : ∀ i : Nat, i ≠ j → ∀ t, zFv ρ (sR h a j y) a i t = zFv ρ h a i t := fun i hi9 t => by
          have e0 : gR (sR h a j y) a i = gR h a i := by
            show gR (sRA h a _) a i = _
            rw [sRA_eq]
            exact if_neg (cne i hi9)
          cases t <;> first | rfl | (show va_rf ((gR (sR h a j y) a i).map ρ) = va_rf ((gR h a i).map ρ); rw [e0])
        have hni : gR (sR h a j y) a j = y := by
          show gR (sRA h a _) a j = _
          rw [sRA_eq]
          exact if_pos rfl
        rcases et with ⟨n9, et⟩ | ⟨n9, et⟩ <;> rw [et]
        · refine ⟨by decide, rfl, rfl, rfl, rfl, fun _ _ => rfl, fun _ _ => rfl, fun b hb => sRA_ne hb, hwf, hov, ?_, ?_, ?_⟩
          · show va_rf ((gR (sR h a j y) a j).map ρ) = _
            rw [hni]
            rfl
          · cases y <;> rfl
          · cases y <;> rfl
        · refine ⟨by decide, rfl, rfl, rfl, rfl, fun _ _ => rfl, fun _ _ => rfl, fun b hb => sRA_ne hb, hwf, hov, ?_, ?_, ?_⟩
          · show va_rf ((gR (sR h a j y) a j).map ρ) = _
            rw [hni]
            rfl
          · cases y <;> rfl
          · cases y <;> rfl
      · cases hp
    obtain ⟨kt, kn, kc, ks, kK, kI, kJ, kR, kW, kO, kV, kN, kF⟩ := key
    have fin9 := e6 kt
    have fld9 := g2.2.1 j e2
    have k9 : ∀ (H1 : Heap) (locs1 : List Loc), va_P D zcl (ws.set (a - zkc) (ρ a, .inr ((gK h a).2, fs.set j (zv ρ v)))) H1 → va_D A (ws.set (a - zkc) (ρ a, .inr ((gK h a).2, fs.set j (zv ρ v)))) → va_S A s.heap H1 locs1 → W p l e R s m args below meth c H1 locs1 cells slots Q (F0 m (pc + 3) lr (rest.map (zv ρ))) := fun H1 locs1 hP1 hD1 hS1 =>
      zKk_same kk kn kc ks (zRel_set r hz kn kK kI kJ kR hP1 hD1 (zCe_put (f1 := fun _ => 0) (f2 := fun _ => 0) (f3 := fun _ => none) hk2 f1 f3 hjl f4 kK kO kV) kW) hS1 (ok_tl (ok_tl ho))
    cases fin with
    | false =>
      rcases e8 with w8 | w8
      · exact va_put x1 x2 x5 g2.1 r9.2.1 g2.2.1 g2.2.2.1 x4 r.1 r.2.1 r.2.2.1 hS _ he g1 j e2 (x5 _ w8) (fun _ h9 => h9) fin9.symm fld9 kN kF hjl hdg k9
      · exact va_putN x1 x2 x5 g2.1 r9.2.1 g2.2.1 g2.2.2.1 x4 r.1 r.2.1 r.2.2.1 hS _ he g1 j e2 (va_Nw.use rfl (x6 _ w8)) (fun _ h9 => h9) fin9.symm fld9 kN kF hjl hdg k9
    | true => exact va_putF x1 x2 x5 g2.1 r9.2.1 g2.2.1 g2.2.2.1 x4 r.1 r.2.1 r.2.2.1 hS _ he g1 j e2 (x5 _ (e7 rfl).2) (fun _ h9 => h9) fin9.symm (x8 (hi rfl)) (e7 rfl).1 fld9 kN kF hjl hdg k9
end ZH
