/-! ===== SOUNDNESS, 9: what the machine throws ===== -/
set_option maxRecDepth 100000
section ZOT
variable {p : Program} {l : Launch} {e : Env} {R : Room} {s : State} {m : MethodId} {args : Array Value} {below : List Frame} {meth : Method} {c : Code} {H : Heap} {locs : List Loc} {cells slots : Nat} {Q : State → Prop}
variable {D : va_G} {A : Nat → Prop} {fz : Nat → Nat} {xs : Nat → Int32} {L : Nat} {ρ : Nat → Nat} {ws : va_W} {tys : List (ClassId × FieldType)} {h h' : zHp}
variable {M : zMi} {pc : Nat} {st st' rest : List zAv} {lr : Array Slot} {len : Nat}
/-- the names above an exception of the machine's own -/
def zUp31 : List String := ["java/lang/IndexOutOfBoundsException", "java/lang/RuntimeException", "java/lang/Exception"]
def zUp30 : List String := ["java/lang/RuntimeException", "java/lang/Exception"]
theorem zMA31 : ((vx_atM (zEx 31) zUp31).all fun w => decide (w ∈ lw_all ∨ (w ∈ lw_nw ∧ w.onTables = true))) = true := by decide +kernel
theorem zMA30 : ((vx_atM (zEx 30) zUp30).all fun w => decide (w ∈ lw_all ∨ (w ∈ lw_nw ∧ w.onTables = true))) = true := by decide +kernel
theorem zMO31 : ((vx_atM (zEx 31) zUp31).all vx_ot) = true := by decide +kernel
theorem zMO30 : ((vx_atM (zEx 30) zUp30).all vx_ot) = true := by decide +kernel
/-- the heap grows behind the picture's back -/
theorem zRel_grow (r : zRel D s A fz xs L H ρ ws tys h) {H1 : Heap} (hq : ∀ q : Nat, q < H.size → H1[q]? = H[q]?) (cc zz : Nat) : zRel D s A fz xs L H1 ρ ws tys (gTick h cc zz) := by
  obtain ⟨r1, r2, r3, r4, r5, r6, r7⟩ := r
  exact ⟨r1, fun k q hk => (r2 k q hk).kept (hq _ (vx_lt r2 hk)), r3, r4, r5, r6, r7⟩
/-- how it goes on where the machine throws -/
def zTk (p : Program) (l : Launch) (e : Env) (R : Room) (s : State) (m : MethodId) (args : Array Value) (below : List Frame) (meth : Method) (c : Code) (cells slots : Nat) (Q : State → Prop) (D : va_G) (A : Nat → Prop) (fz : Nat → Nat) (xs : Nat → Int32) (L : Nat) (ρ : Nat → Nat) (ws : va_W) (tys : List (ClassId × FieldType)) (locs : List Loc) (h : zHp) (E pc : Nat) (lr : Array Slot) : Prop :=
  ∀ (H1 : Heap) (q9 : Addr) (ce : Cell) (rs : List Value), zRel D s A fz xs L H1 ρ ws tys (gTick h 3 400) → va_S A s.heap H1 locs → H1[q9]? = some ce → ce.vm = .none → s.vm.findClass (zEx E) = some ce.cls → vx_W p l e R s m args below meth c H1 locs (cells + 3) (slots + 400) Q (F0 m pc lr rs) q9
theorem zS_vm (X : zCtx M p s m args meth c) (r : zRel D s A fz xs L H ρ ws tys h) (hf : zFz fz xs L A s s.heap) (hS : va_S A s.heap H locs) (hst : l.stackTraces = false) (hRF : 16 ≤ R.frames) (hRL : 12000 ≤ R.locals) (hcl : cells + 3 ≤ R.cells) (hsl : slots + 400 ≤ R.slots) (hls : lr.size = mLoc M) {E : Nat} (hE : E = 31 ∨ E = 30) (hw : zWt rest ≤ 8) {text : String} (htext : (text == notModelled) = false) (hnb : (stringBytes (stringToUtf16 text)).size ≤ 390)
    (kk : zTk p l e R s m args below meth c cells slots Q D A fz xs L ρ ws tys locs h E pc lr) : vx_Note p l e R s m args below meth c H locs cells slots Q (F0 m pc lr (rest.map (zv ρ))) (zEx E) text := by
  obtain ⟨x1, x2, x3, x4, x5, x6, x7, x8, x9, x10, x11⟩ := X
  obtain ⟨f1, f2, f3, f4, f5, f6, f7, f8, f9, f10⟩ := hf
  have hl9 : ((rest.map (zv ρ)).map fun v => v.category).sum + 10240 ≤ R.locals := by
    rw [zWt_eq]
    omega
  have hb : ∀ w, (w ∈ lw_all ∨ (w ∈ lw_nw ∧ w.onTables = true)) → w.before args s = true := fun w hw => hw.elim (x5 w) (fun h => va_tabs h.2 rfl (x6 w h.1))
  rcases hE with rfl | rfl
  · exact vx_vm (names := zUp31) (nb := 390) (A := A) x1 hst (by decide +kernel) (by decide +kernel) (by decide +kernel) (by decide +kernel) (fun w hw => hb w (of_decide_eq_true (List.all_eq_true.mp zMA31 w hw))) (fun w hw => List.all_eq_true.mp zMO31 w hw) f8 f9 hS (hls.trans x3.symm) htext hnb (by decide) (by show 3 + 4 < _; omega) hl9 (by decide) hcl hsl x10 (fun H1 q9 ce g1 g2 g3 g4 g5 g6 => kk H1 q9 ce _ (zRel_grow r g2 3 400) g3 g4 g5 g6)
  · exact vx_vm (names := zUp30) (nb := 390) (A := A) x1 hst (by decide +kernel) (by decide +kernel) (by decide +kernel) (by decide +kernel) (fun w hw => hb w (of_decide_eq_true (List.all_eq_true.mp zMA30 w hw))) (fun w hw => List.all_eq_true.mp zMO30 w hw) f8 f9 hS (hls.trans x3.symm) htext hnb (by decide) (by show 2 + 4 < _; omega) hl9 (by decide) hcl hsl x10 (fun H1 q9 ce g1 g2 g3 g4 g5 g6 => kk H1 q9 ce _ (zRel_grow r g2 3 400) g3 g4 g5 g6)
/-! arrays -/
theorem zS_ialdZ (X : zCtx M p s m args meth c) (r : zRel D s A fz xs L H ρ ws tys h) (hf : zFz fz xs L A s s.heap) (hS : va_S A s.heap H locs) (hst : l.stackTraces = false) (hRF : 16 ≤ R.frames) (hRL : 12000 ≤ R.locals) (hcl : cells + 3 ≤ R.cells) (hsl : slots + 400 ≤ R.slots) (hls : lr.size = mLoc M) {a : Nat} {i : Int} (hdg : decode (mCode M) pc = .ok (.iaload, 1)) (hz : zkc ≤ a) (hk : (gK h a).1 = 1) (hn : ¬ (0 ≤ i ∧ i < ((gK h a).2 : Int))) (hw : zWt rest ≤ 8) (ho : ∀ v9 ∈ Sum.inl i :: Sum.inr (Sum.inr (some a)) :: rest, zOk (gN h) v9)
    (kk : zTk p l e R s m args below meth c cells slots Q D A fz xs L ρ ws tys locs h 31 pc lr) : W p l e R s m args below meth c H locs cells slots Q (F0 m pc lr ((Sum.inl i :: Sum.inr (Sum.inr (some a)) :: rest).map (zv ρ))) := by
  have hi : inI i := ok_hd ho
  obtain ⟨e9, he, hc⟩ := zRel_at r hz (ok_hd (ok_tl ho))
  obtain ⟨cA, f, rfl, ht, -⟩ := hc.2.1 _ (zK_of hk)
  obtain ⟨t0, ht0⟩ := mem_at ht
  refine vx_ialdZ X.1 X.2.1 r.1 r.2.1 _ t0 he ht0 (ofI_nvp hi hn) hdg (fun tx htx => ?_)
  exact zS_vm X r hf hS hst hRF hRL hcl hsl hls (Or.inl rfl) hw (by rw [htx]; exact index_text_modelled _ _) (by rw [htx]; exact Nat.le_trans (index_text_bytes _ (r.2.2.2.2.2.1.1.2 a)) (by decide)) kk
theorem zS_iastZ (X : zCtx M p s m args meth c) (r : zRel D s A fz xs L H ρ ws tys h) (hf : zFz fz xs L A s s.heap) (hS : va_S A s.heap H locs) (hst : l.stackTraces = false) (hRF : 16 ≤ R.frames) (hRL : 12000 ≤ R.locals) (hcl : cells + 3 ≤ R.cells) (hsl : slots + 400 ≤ R.slots) (hls : lr.size = mLoc M) {a : Nat} {i v : Int} (hdg : decode (mCode M) pc = .ok (.iastore, 1)) (hz : zkc ≤ a) (hk : (gK h a).1 = 1) (hn : ¬ (0 ≤ i ∧ i < ((gK h a).2 : Int))) (hw : zWt rest ≤ 8) (ho : ∀ v9 ∈ Sum.inl v :: Sum.inl i :: Sum.inr (Sum.inr (some a)) :: rest, zOk (gN h) v9)
    (kk : zTk p l e R s m args below meth c cells slots Q D A fz xs L ρ ws tys locs h 31 pc lr) : W p l e R s m args below meth c H locs cells slots Q (F0 m pc lr ((Sum.inl v :: Sum.inl i :: Sum.inr (Sum.inr (some a)) :: rest).map (zv ρ))) := by
  have hi : inI i := ok_hd (ok_tl ho)
  obtain ⟨e9, he, hc⟩ := zRel_at r hz (ok_hd (ok_tl (ok_tl ho)))
  obtain ⟨cA, f, rfl, ht, -⟩ := hc.2.1 _ (zK_of hk)
  obtain ⟨t0, ht0⟩ := mem_at ht
  refine vx_iastZ X.1 X.2.1 r.1 r.2.1 _ t0 he ht0 (ofI_nvp hi hn) hdg (fun tx htx => ?_)
  exact zS_vm X r hf hS hst hRF hRL hcl hsl hls (Or.inl rfl) hw (by rw [htx]; exact index_text_modelled _ _) (by rw [htx]; exact Nat.le_trans (index_text_bytes _ (r.2.2.2.2.2.1.1.2 a)) (by decide)) kk
theorem zS_baldZ (X : zCtx M p s m args meth c) (r : zRel D s A fz xs L H ρ ws tys h) (hf : zFz fz xs L A s s.heap) (hS : va_S A s.heap H locs) (hst : l.stackTraces = false) (hRF : 16 ≤ R.frames) (hRL : 12000 ≤ R.locals) (hcl : cells + 3 ≤ R.cells) (hsl : slots + 400 ≤ R.slots) (hls : lr.size = mLoc M) {a : Nat} {i : Int} (hdg : decode (mCode M) pc = .ok (.baload, 1)) (hz : zkc ≤ a) (hk : (gK h a).1 = 2) (hn : ¬ (0 ≤ i ∧ i < ((gK h a).2 : Int))) (hw : zWt rest ≤ 8) (ho : ∀ v9 ∈ Sum.inl i :: Sum.inr (Sum.inr (some a)) :: rest, zOk (gN h) v9)
    (kk : zTk p l e R s m args below meth c cells slots Q D A fz xs L ρ ws tys locs h 31 pc lr) : W p l e R s m args below meth c H locs cells slots Q (F0 m pc lr ((Sum.inl i :: Sum.inr (Sum.inr (some a)) :: rest).map (zv ρ))) := by
  have hi : inI i := ok_hd ho
  obtain ⟨e9, he, hc⟩ := zRel_at r hz (ok_hd (ok_tl ho))
  obtain ⟨cA, f, rfl, ht, -⟩ := hc.2.2.1 _ (zK_of hk)
  obtain ⟨t0, ht0⟩ := mem_at ht
  refine vx_baldZ X.1 X.2.1 r.1 r.2.1 _ t0 he ht0 (ofI_nvp hi hn) hdg (fun tx htx => ?_)
  exact zS_vm X r hf hS hst hRF hRL hcl hsl hls (Or.inl rfl) hw (by rw [htx]; exact index_text_modelled _ _) (by rw [htx]; exact Nat.le_trans (index_text_bytes _ (r.2.2.2.2.2.1.1.2 a)) (by decide)) kk
theorem zS_bastZ (X : zCtx M p s m args meth c) (r : zRel D s A fz xs L H ρ ws tys h) (hf : zFz fz xs L A s s.heap) (hS : va_S A s.heap H locs) (hst : l.stackTraces = false) (hRF : 16 ≤ R.frames) (hRL : 12000 ≤ R.locals) (hcl : cells + 3 ≤ R.cells) (hsl : slots + 400 ≤ R.slots) (hls : lr.size = mLoc M) {a : Nat} {i v : Int} (hdg : decode (mCode M) pc = .ok (.bastore, 1)) (hz : zkc ≤ a) (hk : (gK h a).1 = 2) (hn : ¬ (0 ≤ i ∧ i < ((gK h a).2 : Int))) (hw : zWt rest ≤ 8) (ho : ∀ v9 ∈ Sum.inl v :: Sum.inl i :: Sum.inr (Sum.inr (some a)) :: rest, zOk (gN h) v9)
    (kk : zTk p l e R s m args below meth c cells slots Q D A fz xs L ρ ws tys locs h 31 pc lr) : W p l e R s m args below meth c H locs cells slots Q (F0 m pc lr ((Sum.inl v :: Sum.inl i :: Sum.inr (Sum.inr (some a)) :: rest).map (zv ρ))) := by
  have hi : inI i := ok_hd (ok_tl ho)
  obtain ⟨e9, he, hc⟩ := zRel_at r hz (ok_hd (ok_tl (ok_tl ho)))
  obtain ⟨cA, f, rfl, ht, -⟩ := hc.2.2.1 _ (zK_of hk)
  obtain ⟨t0, ht0⟩ := mem_at ht
  refine vx_bastZ X.1 X.2.1 r.1 r.2.1 _ t0 he ht0 (ofI_nvp hi hn) hdg (fun tx htx => ?_)
  exact zS_vm X r hf hS hst hRF hRL hcl hsl hls (Or.inl rfl) hw (by rw [htx]; exact index_text_modelled _ _) (by rw [htx]; exact Nat.le_trans (index_text_bytes _ (r.2.2.2.2.2.1.1.2 a)) (by decide)) kk
theorem zS_saldZ (X : zCtx M p s m args meth c) (r : zRel D s A fz xs L H ρ ws tys h) (hf : zFz fz xs L A s s.heap) (hS : va_S A s.heap H locs) (hst : l.stackTraces = false) (hRF : 16 ≤ R.frames) (hRL : 12000 ≤ R.locals) (hcl : cells + 3 ≤ R.cells) (hsl : slots + 400 ≤ R.slots) (hls : lr.size = mLoc M) {a : Nat} {i : Int} (hdg : decode (mCode M) pc = .ok (.saload, 1)) (hz : zkc ≤ a) (hk : (gK h a).1 = 3) (hn : ¬ (0 ≤ i ∧ i < ((gK h a).2 : Int))) (hw : zWt rest ≤ 8) (ho : ∀ v9 ∈ Sum.inl i :: Sum.inr (Sum.inr (some a)) :: rest, zOk (gN h) v9)
    (kk : zTk p l e R s m args below meth c cells slots Q D A fz xs L ρ ws tys locs h 31 pc lr) : W p l e R s m args below meth c H locs cells slots Q (F0 m pc lr ((Sum.inl i :: Sum.inr (Sum.inr (some a)) :: rest).map (zv ρ))) := by
  have hi : inI i := ok_hd ho
  obtain ⟨e9, he, hc⟩ := zRel_at r hz (ok_hd (ok_tl ho))
  obtain ⟨cA, f, rfl, ht, -⟩ := hc.2.2.2.1 _ (zK_of hk)
  obtain ⟨t0, ht0⟩ := mem_at ht
  refine vx_saldZ X.1 X.2.1 r.1 r.2.1 _ t0 he ht0 (ofI_nvp hi hn) hdg (fun tx htx => ?_)
  exact zS_vm X r hf hS hst hRF hRL hcl hsl hls (Or.inl rfl) hw (by rw [htx]; exact index_text_modelled _ _) (by rw [htx]; exact Nat.le_trans (index_text_bytes _ (r.2.2.2.2.2.1.1.2 a)) (by decide)) kk
theorem zS_sastZ (X : zCtx M p s m args meth c) (r : zRel D s A fz xs L H ρ ws tys h) (hf : zFz fz xs L A s s.heap) (hS : va_S A s.heap H locs) (hst : l.stackTraces = false) (hRF : 16 ≤ R.frames) (hRL : 12000 ≤ R.locals) (hcl : cells + 3 ≤ R.cells) (hsl : slots + 400 ≤ R.slots) (hls : lr.size = mLoc M) {a : Nat} {i v : Int} (hdg : decode (mCode M) pc = .ok (.sastore, 1)) (hz : zkc ≤ a) (hk : (gK h a).1 = 3) (hn : ¬ (0 ≤ i ∧ i < ((gK h a).2 : Int))) (hw : zWt rest ≤ 8) (ho : ∀ v9 ∈ Sum.inl v :: Sum.inl i :: Sum.inr (Sum.inr (some a)) :: rest, zOk (gN h) v9)
    (kk : zTk p l e R s m args below meth c cells slots Q D A fz xs L ρ ws tys locs h 31 pc lr) : W p l e R s m args below meth c H locs cells slots Q (F0 m pc lr ((Sum.inl v :: Sum.inl i :: Sum.inr (Sum.inr (some a)) :: rest).map (zv ρ))) := by
  have hi : inI i := ok_hd (ok_tl ho)
  obtain ⟨e9, he, hc⟩ := zRel_at r hz (ok_hd (ok_tl (ok_tl ho)))
  obtain ⟨cA, f, rfl, ht, -⟩ := hc.2.2.2.1 _ (zK_of hk)
  obtain ⟨t0, ht0⟩ := mem_at ht
  refine vx_sastZ X.1 X.2.1 r.1 r.2.1 _ t0 he ht0 (ofI_nvp hi hn) hdg (fun tx htx => ?_)
  exact zS_vm X r hf hS hst hRF hRL hcl hsl hls (Or.inl rfl) hw (by rw [htx]; exact index_text_modelled _ _) (by rw [htx]; exact Nat.le_trans (index_text_bytes _ (r.2.2.2.2.2.1.1.2 a)) (by decide)) kk
theorem zS_laldZ (X : zCtx M p s m args meth c) (r : zRel D s A fz xs L H ρ ws tys h) (hf : zFz fz xs L A s s.heap) (hS : va_S A s.heap H locs) (hst : l.stackTraces = false) (hRF : 16 ≤ R.frames) (hRL : 12000 ≤ R.locals) (hcl : cells + 3 ≤ R.cells) (hsl : slots + 400 ≤ R.slots) (hls : lr.size = mLoc M) {a : Nat} {i : Int} (hdg : decode (mCode M) pc = .ok (.laload, 1)) (hz : zkc ≤ a) (hk : (gK h a).1 = 4) (hn : ¬ (0 ≤ i ∧ i < ((gK h a).2 : Int))) (hw : zWt rest ≤ 8) (ho : ∀ v9 ∈ Sum.inl i :: Sum.inr (Sum.inr (some a)) :: rest, zOk (gN h) v9)
    (kk : zTk p l e R s m args below meth c cells slots Q D A fz xs L ρ ws tys locs h 31 pc lr) : W p l e R s m args below meth c H locs cells slots Q (F0 m pc lr ((Sum.inl i :: Sum.inr (Sum.inr (some a)) :: rest).map (zv ρ))) := by
  have hi : inI i := ok_hd ho
  obtain ⟨e9, he, hc⟩ := zRel_at r hz (ok_hd (ok_tl ho))
  obtain ⟨cA, f, rfl, ht, -⟩ := hc.2.2.2.2.1 _ (zK_of hk)
  obtain ⟨t0, ht0⟩ := mem_at ht
  refine vx_laldZ X.1 X.2.1 r.1 r.2.1 _ t0 he ht0 (ofI_nvp hi hn) hdg (fun tx htx => ?_)
  exact zS_vm X r hf hS hst hRF hRL hcl hsl hls (Or.inl rfl) hw (by rw [htx]; exact index_text_modelled _ _) (by rw [htx]; exact Nat.le_trans (index_text_bytes _ (r.2.2.2.2.2.1.1.2 a)) (by decide)) kk
theorem zS_lastZ (X : zCtx M p s m args meth c) (r : zRel D s A fz xs L H ρ ws tys h) (hf : zFz fz xs L A s s.heap) (hS : va_S A s.heap H locs) (hst : l.stackTraces = false) (hRF : 16 ≤ R.frames) (hRL : 12000 ≤ R.locals) (hcl : cells + 3 ≤ R.cells) (hsl : slots + 400 ≤ R.slots) (hls : lr.size = mLoc M) {a : Nat} {i v : Int} (hdg : decode (mCode M) pc = .ok (.lastore, 1)) (hz : zkc ≤ a) (hk : (gK h a).1 = 4) (hn : ¬ (0 ≤ i ∧ i < ((gK h a).2 : Int))) (hw : zWt rest ≤ 8) (ho : ∀ v9 ∈ Sum.inr (Sum.inl v) :: Sum.inl i :: Sum.inr (Sum.inr (some a)) :: rest, zOk (gN h) v9)
    (kk : zTk p l e R s m args below meth c cells slots Q D A fz xs L ρ ws tys locs h 31 pc lr) : W p l e R s m args below meth c H locs cells slots Q (F0 m pc lr ((Sum.inr (Sum.inl v) :: Sum.inl i :: Sum.inr (Sum.inr (some a)) :: rest).map (zv ρ))) := by
  have hi : inI i := ok_hd (ok_tl ho)
  obtain ⟨e9, he, hc⟩ := zRel_at r hz (ok_hd (ok_tl (ok_tl ho)))
  obtain ⟨cA, f, rfl, ht, -⟩ := hc.2.2.2.2.1 _ (zK_of hk)
  obtain ⟨t0, ht0⟩ := mem_at ht
  refine vx_lastZ X.1 X.2.1 r.1 r.2.1 _ t0 he ht0 (ofI_nvp hi hn) hdg (fun tx htx => ?_)
  exact zS_vm X r hf hS hst hRF hRL hcl hsl hls (Or.inl rfl) hw (by rw [htx]; exact index_text_modelled _ _) (by rw [htx]; exact Nat.le_trans (index_text_bytes _ (r.2.2.2.2.2.1.1.2 a)) (by decide)) kk
end ZOT
