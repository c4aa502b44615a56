/-! ===== SOUNDNESS, 6: cells made; constants; kinds of arrays; the JDK's own ===== -/
set_option maxRecDepth 100000
theorem zCls_tag : ∀ r ∈ zCls, ∀ j, j < r.1.2.2 → zTag (r.2.1 j) < 5 := by
  refine List.forall_mem_cons.mpr ⟨by decide, List.forall_mem_cons.mpr ⟨by decide, List.forall_mem_cons.mpr ⟨by decide, List.forall_mem_cons.mpr ⟨by decide, List.forall_mem_cons.mpr ⟨by decide, List.forall_mem_cons.mpr ⟨by decide, List.forall_mem_cons.mpr ⟨by decide, List.forall_mem_cons.mpr ⟨by decide, List.forall_mem_cons.mpr ⟨by decide, List.forall_mem_cons.mpr ⟨by decide, List.forall_mem_cons.mpr ⟨by decide, List.forall_mem_cons.mpr ⟨by decide, List.forall_mem_cons.mpr ⟨by decide, List.forall_mem_cons.mpr ⟨by decide, List.forall_mem_cons.mpr ⟨by decide, List.forall_mem_cons.mpr ⟨by decide, fun _ h => nomatch h⟩⟩⟩⟩⟩⟩⟩⟩⟩⟩⟩⟩⟩⟩⟩⟩
theorem zAcl_5 : ∀ q ∈ zAcl, 5 ≤ q.1 := by decide
theorem zFv_new {ρ : Nat → Nat} {h : zHp} {k : Nat × Nat} {z j : Nat} {t : FieldType} (ht : zTag t < 5) : zFv ρ (gNew h k z) (gN h) j t = defaultValue t := by
  have eI : gI (gNew h k z) (gN h) = fun _ => 0 := if_pos rfl
  have eJ : gJ (gNew h k z) (gN h) = fun _ => 0 := if_pos rfl
  have eR : gR (gNew h k z) (gN h) = fun _ => none := if_pos rfl
  cases t <;> first
    | (exfalso; revert ht; simp [zTag]; done)
    | (show Value.int (Int32.ofInt (gI (gNew h k z) (gN h) j)) = _; rw [eI]; rfl)
    | (show Value.long (Int64.ofInt (gJ (gNew h k z) (gN h) j)) = _; rw [eJ]; rfl)
    | (show va_rf ((gR (gNew h k z) (gN h) j).map ρ) = _; rw [eR]; rfl)
section ZN
variable {p : Program} {l : Launch} {e : Env} {R : Room} {s : State} {m : MethodId} {args : Array Value} {below : List Frame} {meth : Method} {c : Code} {H : Heap} {locs : List Loc} {cells slots : Nat} {Q : State → Prop}
variable {D : va_G} {A : Nat → Prop} {fz : Nat → Nat} {xs : Nat → Int32} {L : Nat} {ρ : Nat → Nat} {ws : va_W} {tys : List (ClassId × FieldType)} {h h' : zHp}
variable {M : zMi} {pc : Nat} {st st' rest : List zAv} {lr : Array Slot} {len : Nat}
theorem zK_new {k : Nat × Nat} {z : Nat} : gK (gNew h k z) (gN h) = k := if_pos rfl
/-- behind a cell's making -/
theorem zS_made (r : zRel D s A fz xs L H ρ ws tys h) {k : Nat × Nat} {z : Nat} (ho : ∀ v ∈ st, zOk (gN h) v) (kk : zKk p l e R s m args below meth c cells slots Q D A fz xs L ρ h (gNew h k z) (.inr (.inr (some (gN h))) :: st) (F0 m (pc + len) lr))
    {q : Nat} {H1 : Heap} {e' : va_E} {tys' : List (ClassId × FieldType)} (hk9 : k.2 < 2147483648) (hK : va_K D zcl tys' s) (ht : ∀ x ∈ tys, x ∈ tys') (hP : va_P D zcl (ws ++ [(q, e')]) H1) (hD : va_D A (ws ++ [(q, e')])) (hS : va_S A s.heap H1 locs) (hc : zCe (va_up ρ (gN h) q) tys' (gNew h k z) (gN h) e') :
    W p l e R s m args below meth c H1 locs (cells + 1) (slots + z) Q (F0 m (pc + len) lr (.ref q :: st.map (zv ρ))) := by
  have hne : ∀ a, a < gN h → va_up ρ (gN h) q a = ρ a := fun a ha => va_up_ne _ _ (by omega)
  have k9 := kk H1 locs (va_up ρ (gN h) q) _ tys' (cells + 1) (slots + z) hne (Nat.le_succ _) (zRel_new r hK ht hP hD hc (zWf_new r.2.2.2.2.2.1 hk9)) hS (ok_cons (show gN h < gN h + 1 by omega) (fun v hv => zOk_mono (Nat.le_succ _) (ho v hv))) (by show cells + 1 + gC h = cells + (gC h + 1); omega) (by show slots + z + gS h = slots + (gS h + z); omega)
  rw [List.map_cons, zv_eqs hne ho] at k9
  have e9 : zv (va_up ρ (gN h) q) (.inr (.inr (some (gN h)))) = .ref q := by
    show Value.ref (va_up ρ (gN h) q (gN h)) = _
    rw [va_up_self]
  rw [e9] at k9
  exact k9
theorem zS_new (X : zCtx M p s m args meth c) (r : zRel D s A fz xs L H ρ ws tys h) (hS : va_S A s.heap H locs) (hA : ∀ q, s.heap.size ≤ q → A q) {x : Nat} {q : Nat × Nat} (hdg : decode (mCode M) pc = .ok (.new x, 3)) (hq : zNew (mCls M) x = some q) (ho : ∀ v ∈ st, zOk (gN h) v) (hrc : cells + 1 ≤ R.cells) (hrs : slots + q.2 ≤ R.slots)
    (kk : zKk p l e R s m args below meth c cells slots Q D A fz xs L ρ h (gNew h (0, q.1) q.2) (.inr (.inr (some (gN h))) :: st) (F0 m (pc + 3) lr)) : W p l e R s m args below meth c H locs cells slots Q (F0 m pc lr (st.map (zv ρ))) := by
  obtain ⟨x1, x2, x3, x4, x5, -⟩ := X
  obtain ⟨u, h1, h2⟩ := zLk2_mem hq
  obtain ⟨r9, f1, f2, f3⟩ := zNF _ h1 _ h2
  dsimp only at f1 f2 f3
  obtain ⟨g1, g2⟩ := zCls_at f1
  have htag := zCls_tag r9 (List.mem_of_getElem? f1)
  rw [f2] at kk hrs
  have hfs : ∀ j, j < r9.1.2.2 → ((List.range r9.1.2.2).map (fun j => defaultValue (r9.2.1 j)))[j]? = some (defaultValue (r9.2.1 j)) := fun j hj => by
    rw [List.getElem?_map, List.getElem?_range hj]
    rfl
  refine va_new (ci := q.1) (fs := (List.range r9.1.2.2).map (fun j => defaultValue (r9.2.1 j))) x1 x2 x5 g2.1 r9.2.1 g2.2.1 x4 (x5 _ f3) (x5 _ g2.2.2.2.1) (x5 _ g2.2.2.2.2.1) r.1 r.2.1 r.2.2.1 hS hA g1 (fun j hj => ?_) hrc hrs hdg (fun q9 H1 hP1 hD1 hS1 => ?_)
  · unfold vp_V
    rw [List.getD_eq_getElem?_getD, hfs j hj]
    rfl
  · refine zS_made r ho kk (by have := zCls_lt f1; show q.1 < _; omega) r.1 (fun _ hx => hx) hP1 hD1 hS1 ?_
    refine ⟨fun cc q => ?_, fun n q => ?_, fun n q => ?_, fun n q => ?_, fun n q => ?_, fun k n q5 q => ?_⟩ <;> rw [zK_new] at q <;> cases q
    · exact ⟨r9, _, f1, rfl, by rw [List.length_map, List.length_range], fun j y1 y2 => by rw [hfs j y2, zFv_new (htag j y2)]⟩
    · exact absurd q5 (by decide)
theorem zS_newa (X : zCtx M p s m args meth c) (r : zRel D s A fz xs L H ρ ws tys h) (hS : va_S A s.heap H locs) (hA : ∀ q, s.heap.size ≤ q → A q) {t : ArrayType} {k : Nat} {n : Int} (hdg : decode (mCode M) pc = .ok (.newarray t, 2)) (h0 : 0 ≤ n) (hn : n ≤ 100000) (hk : zAT t = some k) (ho : ∀ v ∈ Sum.inl n :: rest, zOk (gN h) v) (hrc : cells + 1 ≤ R.cells) (hrs : slots + n.toNat ≤ R.slots)
    (kk : zKk p l e R s m args below meth c cells slots Q D A fz xs L ρ h (gNew h (k, n.toNat) n.toNat) (.inr (.inr (some (gN h))) :: rest) (F0 m (pc + 2) lr)) : W p l e R s m args below meth c H locs cells slots Q (F0 m pc lr ((Sum.inl n :: rest).map (zv ρ))) := by
  obtain ⟨x1, x2, x3, x4, x5, -⟩ := X
  have hi : inI n := ok_hd ho
  have eI : gI (gNew h (k, n.toNat) n.toNat) (gN h) = fun _ => 0 := if_pos rfl
  have eJ : gJ (gNew h (k, n.toNat) n.toNat) (gN h) = fun _ => 0 := if_pos rfl
  have hneg : ¬ Int32.ofInt n < 0 := (ofI_neg hi).mpr h0
  have hcl := clampN h0 hn
  cases t with
  | int =>
    cases hk
    refine va_newa (atype := .int) (ty := .int) (a0 := (n.toNat, .inl fun _ => 0)) x1 x2 (x5 _ q441) rfl r.1 r.2.1 r.2.2.1 hS hA (fun _ => rfl) hneg hcl (by show n.toNat * 4 ≤ _; omega) hrc hrs hdg (fun q9 cA H1 hK1 hP1 hD1 hS1 => ?_)
    refine zS_made r (ok_tl ho) kk (by show n.toNat < _; omega) hK1 (fun _ hx => List.mem_append_left _ hx) hP1 hD1 hS1 (zCe_k1 (n := n.toNat) zK_new ⟨cA, _, rfl, List.mem_append_right _ List.mem_cons_self, fun j hj => by rw [eI]; rfl⟩)
  | byte =>
    cases hk
    refine va_newa (atype := .byte) (ty := .byte) (a0 := (n.toNat, .inl fun _ => 0)) x1 x2 (x5 _ q298) rfl r.1 r.2.1 r.2.2.1 hS hA (fun _ => rfl) hneg hcl (by show n.toNat * 1 ≤ _; omega) hrc hrs hdg (fun q9 cA H1 hK1 hP1 hD1 hS1 => ?_)
    refine zS_made r (ok_tl ho) kk (by show n.toNat < _; omega) hK1 (fun _ hx => List.mem_append_left _ hx) hP1 hD1 hS1 (zCe_k2 (n := n.toNat) zK_new ⟨cA, _, rfl, List.mem_append_right _ List.mem_cons_self, fun j hj => ⟨by rw [eI]; rfl, rfl⟩⟩)
  | short =>
    cases hk
    refine va_newa (atype := .short) (ty := .short) (a0 := (n.toNat, .inl fun _ => 0)) x1 x2 (x5 _ q592) rfl r.1 r.2.1 r.2.2.1 hS hA (fun _ => rfl) hneg hcl (by show n.toNat * 2 ≤ _; omega) hrc hrs hdg (fun q9 cA H1 hK1 hP1 hD1 hS1 => ?_)
    refine zS_made r (ok_tl ho) kk (by show n.toNat < _; omega) hK1 (fun _ hx => List.mem_append_left _ hx) hP1 hD1 hS1 (zCe_k3 (n := n.toNat) zK_new ⟨cA, _, rfl, List.mem_append_right _ List.mem_cons_self, fun j hj => ⟨by rw [eI]; rfl, rfl⟩⟩)
  | long =>
    cases hk
    refine va_newa (atype := .long) (ty := .long) (a0 := (n.toNat, .inr (.inl fun _ => 0))) x1 x2 (x5 _ q593) rfl r.1 r.2.1 r.2.2.1 hS hA (fun _ => rfl) hneg hcl (by show n.toNat * 8 ≤ _; omega) hrc hrs hdg (fun q9 cA H1 hK1 hP1 hD1 hS1 => ?_)
    refine zS_made r (ok_tl ho) kk (by show n.toNat < _; omega) hK1 (fun _ hx => List.mem_append_left _ hx) hP1 hD1 hS1 (zCe_k4 (n := n.toNat) zK_new ⟨cA, _, rfl, List.mem_append_right _ List.mem_cons_self, fun j hj => by rw [eJ]; rfl⟩)
  | _ => cases hk
theorem zS_newq (X : zCtx M p s m args meth c) (r : zRel D s A fz xs L H ρ ws tys h) (hS : va_S A s.heap H locs) (hA : ∀ q, s.heap.size ≤ q → A q) {x k : Nat} {n : Int} (hdg : decode (mCode M) pc = .ok (.anewarray x, 3)) (h0 : 0 ≤ n) (hn : n ≤ 100000) (hk : zANew (mCls M) x = some k) (ho : ∀ v ∈ Sum.inl n :: rest, zOk (gN h) v) (hrc : cells + 1 ≤ R.cells) (hrs : slots + n.toNat ≤ R.slots)
    (kk : zKk p l e R s m args below meth c cells slots Q D A fz xs L ρ h (gNew h (k, n.toNat) n.toNat) (.inr (.inr (some (gN h))) :: rest) (F0 m (pc + 3) lr)) : W p l e R s m args below meth c H locs cells slots Q (F0 m pc lr ((Sum.inl n :: rest).map (zv ρ))) := by
  obtain ⟨x1, x2, x3, x4, x5, x6, -⟩ := X
  have hi : inI n := ok_hd ho
  obtain ⟨u, h1, h2⟩ := zLk2_mem hk
  obtain ⟨nm, f1, f2, f3⟩ := zAF _ h1 _ h2
  dsimp only at f1 f2 f3
  have h5 : 5 ≤ k := zAcl_5 _ (zLk_mem f1)
  have eR : gR (gNew h (k, n.toNat) n.toNat) (gN h) = fun _ => none := if_pos rfl
  refine va_newq (N' := n.toNat) x1 x2 x4 (x5 _ f2) (x6 _ f3) r.1 r.2.1 r.2.2.1 hS hA ((ofI_neg hi).mpr h0) (clampN h0 hn) (by omega) hrc hrs hdg (fun q9 cA H1 hK1 hP1 hD1 hS1 => ?_)
  refine zS_made r (ok_tl ho) kk (by show n.toNat < _; omega) hK1 (fun _ hx => List.mem_append_left _ hx) hP1 hD1 hS1 (zCe_k5 (n := n.toNat) h5 zK_new ⟨cA, nm, _, f1, rfl, List.mem_append_right _ List.mem_cons_self, fun j hj => by rw [eR]; rfl⟩)
theorem zStr_at {k : Nat} {r9 : String × Nat × String × List Int} (h9 : zStr[k]? = some r9) : k < 32 ∧ zTx k = r9 := by
  refine ⟨(List.getElem?_eq_some_iff.mp h9).1, ?_⟩
  unfold zTx
  rw [List.getD_eq_getElem?_getD, h9]
  rfl
theorem zS_ldc (X : zCtx M p s m args meth c) (r : zRel D s A fz xs L H ρ ws tys h) (hf : zFz fz xs L A s s.heap) (hS : va_S A s.heap H locs) {x : Nat} {v : zAv} (hdg : decode (mCode M) pc = .ok (.ldc x, 2)) (hq : zLdc (mCls M) x = some v) (ho : ∀ v ∈ st, zOk (gN h) v)
    (kk : zKk p l e R s m args below meth c cells slots Q D A fz xs L ρ h h (v :: st) (F0 m (pc + 2) lr)) : W p l e R s m args below meth c H locs cells slots Q (F0 m pc lr (st.map (zv ρ))) := by
  obtain ⟨x1, x2, x3, x4, x5, -⟩ := X
  obtain ⟨u, h1, h2⟩ := zLk2_mem hq
  rcases zLF _ h1 _ h2 with ⟨w, f1, f2, f3⟩ | ⟨k, r9, f1, f2, f3, f4⟩
  · dsimp only at f1 f3
    subst f1
    exact lv_ldc x1 x2 x4 (x5 _ f3) hdg (zKk_same kk rfl rfl rfl r hS (ok_cons f2 ho))
  · dsimp only at f2 f3 f4
    subst f2
    obtain ⟨e1, e2⟩ := zStr_at f1
    have hz : 2 * k + 1 < zkc := by show _ < 65; omega
    have k9 := zKk_same kk rfl rfl rfl r hS (ok_cons (show 2 * k + 1 < gN h from Nat.lt_of_lt_of_le hz r.2.2.2.2.2.1.1.1) ho)
    have e9 : zv ρ (.inr (.inr (some (2 * k + 1)))) = .ref (fz (2 * k + 1)) := by
      show Value.ref (ρ (2 * k + 1)) = _
      rw [r.2.2.2.2.2.2 _ hz]
    rw [List.map_cons, e9] at k9
    have hR := hf.2.2.2.2.2.1 k e1
    rw [e2, f3, f4] at hR
    exact va_ldcS x1 x2 x4 hR hdg k9
theorem zS_ldcw (X : zCtx M p s m args meth c) (r : zRel D s A fz xs L H ρ ws tys h) (hS : va_S A s.heap H locs) {x : Nat} {v : Int} (hdg : decode (mCode M) pc = .ok (.ldc_w x, 3)) (hq : zLdc (mCls M) x = some (.inl v)) (ho : ∀ v ∈ st, zOk (gN h) v)
    (kk : zKk p l e R s m args below meth c cells slots Q D A fz xs L ρ h h (.inl v :: st) (F0 m (pc + 3) lr)) : W p l e R s m args below meth c H locs cells slots Q (F0 m pc lr (st.map (zv ρ))) := by
  obtain ⟨x1, x2, x3, x4, x5, -⟩ := X
  obtain ⟨u, h1, h2⟩ := zLk2_mem hq
  rcases zLF _ h1 _ h2 with ⟨w, f1, f2, f3⟩ | ⟨k, r9, f1, f2, f3, f4⟩
  · dsimp only at f1 f3
    cases f1
    exact lv_ldcw x1 x2 x4 (x5 _ f3) hdg (zKk_same kk rfl rfl rfl r hS (ok_cons f2 ho))
  · dsimp only at f2
    cases f2
theorem zS_ldc2 (X : zCtx M p s m args meth c) (r : zRel D s A fz xs L H ρ ws tys h) (hS : va_S A s.heap H locs) {x : Nat} {v : Int} (hdg : decode (mCode M) pc = .ok (.ldc2_w x, 3)) (hq : zLdc2 (mCls M) x = some v) (ho : ∀ v ∈ st, zOk (gN h) v)
    (kk : zKk p l e R s m args below meth c cells slots Q D A fz xs L ρ h h (.inr (.inl v) :: st) (F0 m (pc + 3) lr)) : W p l e R s m args below meth c H locs cells slots Q (F0 m pc lr (st.map (zv ρ))) := by
  obtain ⟨x1, x2, x3, x4, x5, -⟩ := X
  obtain ⟨u, h1, h2⟩ := zLk2_mem hq
  obtain ⟨f1, f2⟩ := zGF _ h1 _ h2
  exact lv_ldc2 x1 x2 x4 (x5 _ f2) hdg (zKk_same kk rfl rfl rfl r hS (ok_cons (show zOk (gN h) (.inr (.inl v)) from f1) ho))
theorem zS_gets (X : zCtx M p s m args meth c) (r : zRel D s A fz xs L H ρ ws tys h) (hf : zFz fz xs L A s s.heap) (hS : va_S A s.heap H locs) {x : Nat} {v : Int} (hdg : decode (mCode M) pc = .ok (.getstatic x, 3)) (hq : zSta (mCls M) x = some v) (ho : ∀ v ∈ st, zOk (gN h) v)
    (kk : zKk p l e R s m args below meth c cells slots Q D A fz xs L ρ h h (.inl v :: st) (F0 m (pc + 3) lr)) : W p l e R s m args below meth c H locs cells slots Q (F0 m pc lr (st.map (zv ρ))) := by
  obtain ⟨x1, x2, x3, x4, x5, -⟩ := X
  obtain ⟨u, h1, h2⟩ := zLk2_mem hq
  obtain ⟨f1, f2⟩ := zBF _ h1 _ h2
  dsimp only at f1 f2
  subst f1
  exact va_gets x1 x2 hf.2.2.2.2.2.2.1 hS x4 (x5 _ f2) (fun _ h9 => h9) hdg (zKk_same kk rfl rfl rfl r hS (ok_cons (show inI 1 from ⟨by decide, by decide⟩) ho))
end ZN
