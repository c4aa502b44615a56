/-! ===== SOUNDNESS, 8: Math and Object.<init> ===== -/
set_option maxRecDepth 100000
section ZOM
variable {p : Program} {l : Launch} {e : Env} {R : Room} {s : State} {m : MethodId} {args : Array Value} {below : List Frame} {meth : Method} {c : Code} {H : Heap} {locs : List Loc} {cells slots : Nat} {Q : State → Prop}
variable {D : va_G} {A : Nat → Prop} {fz : Nat → Nat} {xs : Nat → Int32} {L : Nat} {ρ : Nat → Nat} {ws : va_W} {tys : List (ClassId × FieldType)} {h h' : zHp}
variable {M : zMi} {pc : Nat} {st st' rest : List zAv} {lr : Array Slot} {len : Nat}
theorem ofL_lt {x y : Int} (hx : inL x) (hy : inL y) : Int64.ofInt x < Int64.ofInt y ↔ x < y := by
  rw [Int64.lt_iff_toInt_lt, ofL_to hx, ofL_to hy]
theorem ofL_neg (x : Int) : -Int64.ofInt x = Int64.ofInt (wL (-x)) := by
  rw [← Int64.toInt_inj, ofL_to (wL_in _), Int64.toInt_neg, Int64.toInt_ofInt]
  unfold wL
  simp only [Int.bmod_def, Int64.size]
  omega
theorem zv_max {x y : Int} (hx : inI x) (hy : inI y) : Value.int (if Int32.ofInt x < Int32.ofInt y then Int32.ofInt y else Int32.ofInt x) = zv ρ (.inl (if x < y then y else x)) := by
  by_cases e9 : x < y
  · rw [if_pos e9, if_pos ((ofI_lt hx hy).mpr e9)]; rfl
  · rw [if_neg e9, if_neg (fun h => e9 ((ofI_lt hx hy).mp h))]; rfl
theorem zv_min {x y : Int} (hx : inI x) (hy : inI y) : Value.int (if Int32.ofInt y < Int32.ofInt x then Int32.ofInt y else Int32.ofInt x) = zv ρ (.inl (if y < x then y else x)) := by
  by_cases e9 : y < x
  · rw [if_pos e9, if_pos ((ofI_lt hy hx).mpr e9)]; rfl
  · rw [if_neg e9, if_neg (fun h => e9 ((ofI_lt hy hx).mp h))]; rfl
theorem zv_abs {x : Int} (hx : inL x) : Value.long (if 0 < Int64.ofInt x then Int64.ofInt x else -Int64.ofInt x) = zv ρ (.inr (.inl (if 0 < x then x else wL (-x)))) := by
  have h0 : (0 : Int64) = Int64.ofInt 0 := rfl
  have hi0 : inL 0 := ⟨by decide, by decide⟩
  by_cases e9 : 0 < x
  · rw [if_pos e9, if_pos (by rw [h0]; exact (ofL_lt hi0 hx).mpr e9)]; rfl
  · rw [if_neg e9, if_neg (fun h => e9 ((ofL_lt hi0 hx).mp (by rw [h0] at h; exact h))), ofL_neg]; rfl
theorem zS_mmax (X : zCtx M p s m args meth c) (r : zRel D s A fz xs L H ρ ws tys h) (hS : va_S A s.heap H locs) (hRF : 16 ≤ R.frames) (hRL : 12000 ≤ R.locals) (hcl : cells ≤ R.cells) (hsl : slots ≤ R.slots) (hls : lr.size = mLoc M) {x : Nat} {u v : Int} (hdg : decode (mCode M) pc = .ok (.invokestatic x, 3)) (hq : zNat (mCls M) x = some 4) (hw : zWt rest ≤ 8) (ho : ∀ v9 ∈ Sum.inl v :: Sum.inl u :: rest, zOk (gN h) v9)
    (kk : zKk p l e R s m args below meth c cells slots Q D A fz xs L ρ h h (.inl (if u < v then v else u) :: rest) (F0 m (pc + 3) lr)) : W p l e R s m args below meth c H locs cells slots Q (F0 m pc lr ((Sum.inl v :: Sum.inl u :: rest).map (zv ρ))) := by
  obtain ⟨x1, x2, x3, x4, x5, x6, -⟩ := X
  obtain ⟨t0, e1, e2⟩ := zLk2_mem hq
  obtain ⟨y, f1, f2⟩ := zYF _ e1 _ e2
  dsimp only at f1 f2
  cases f1
  have hl9 : ((rest.map (zv ρ)).map fun v => v.category).sum + 15 ≤ R.locals := by
    rw [zWt_eq]
    omega
  have hy : inI v := ok_hd ho
  have hx : inI u := ok_hd (ok_tl ho)
  have k2 := zKk_same kk rfl rfl rfl r hS (ok_cons (show inI (if u < v then v else u) by split <;> assumption) (ok_tl (ok_tl ho)))
  rw [List.map_cons, ← zv_max hx hy] at k2
  exact va_mmax x1 x2 (x3.trans hls.symm) x4 (x5 _ f2) (x5 _ q1375) (x5 _ q200) (x5 _ q1376) (by omega) (by omega) hcl hsl hdg k2
theorem zS_mmin (X : zCtx M p s m args meth c) (r : zRel D s A fz xs L H ρ ws tys h) (hS : va_S A s.heap H locs) (hRF : 16 ≤ R.frames) (hRL : 12000 ≤ R.locals) (hcl : cells ≤ R.cells) (hsl : slots ≤ R.slots) (hls : lr.size = mLoc M) {x : Nat} {u v : Int} (hdg : decode (mCode M) pc = .ok (.invokestatic x, 3)) (hq : zNat (mCls M) x = some 5) (hw : zWt rest ≤ 8) (ho : ∀ v9 ∈ Sum.inl v :: Sum.inl u :: rest, zOk (gN h) v9)
    (kk : zKk p l e R s m args below meth c cells slots Q D A fz xs L ρ h h (.inl (if v < u then v else u) :: rest) (F0 m (pc + 3) lr)) : W p l e R s m args below meth c H locs cells slots Q (F0 m pc lr ((Sum.inl v :: Sum.inl u :: rest).map (zv ρ))) := by
  obtain ⟨x1, x2, x3, x4, x5, x6, -⟩ := X
  obtain ⟨t0, e1, e2⟩ := zLk2_mem hq
  obtain ⟨y, f1, f2⟩ := zYF _ e1 _ e2
  dsimp only at f1 f2
  cases f1
  have hl9 : ((rest.map (zv ρ)).map fun v => v.category).sum + 15 ≤ R.locals := by
    rw [zWt_eq]
    omega
  have hy : inI v := ok_hd ho
  have hx : inI u := ok_hd (ok_tl ho)
  have k2 := zKk_same kk rfl rfl rfl r hS (ok_cons (show inI (if v < u then v else u) by split <;> assumption) (ok_tl (ok_tl ho)))
  rw [List.map_cons, ← zv_min hx hy] at k2
  exact va_mmin x1 x2 (x3.trans hls.symm) x4 (x5 _ f2) (x5 _ q1335) (x5 _ q200) (x5 _ q1336) (by omega) (by omega) hcl hsl hdg k2
theorem zS_mabs (X : zCtx M p s m args meth c) (r : zRel D s A fz xs L H ρ ws tys h) (hS : va_S A s.heap H locs) (hRF : 16 ≤ R.frames) (hRL : 12000 ≤ R.locals) (hcl : cells ≤ R.cells) (hsl : slots ≤ R.slots) (hls : lr.size = mLoc M) {x : Nat} {u v : Int} (hdg : decode (mCode M) pc = .ok (.invokestatic x, 3)) (hq : zNat (mCls M) x = some 6) (hw : zWt rest ≤ 8) (ho : ∀ v9 ∈ Sum.inr (Sum.inl u) :: rest, zOk (gN h) v9)
    (kk : zKk p l e R s m args below meth c cells slots Q D A fz xs L ρ h h (.inr (.inl (if 0 < u then u else wL (-u))) :: rest) (F0 m (pc + 3) lr)) : W p l e R s m args below meth c H locs cells slots Q (F0 m pc lr ((Sum.inr (Sum.inl u) :: rest).map (zv ρ))) := by
  obtain ⟨x1, x2, x3, x4, x5, x6, -⟩ := X
  obtain ⟨t0, e1, e2⟩ := zLk2_mem hq
  obtain ⟨y, f1, f2⟩ := zYF _ e1 _ e2
  dsimp only at f1 f2
  cases f1
  have hl9 : ((rest.map (zv ρ)).map fun v => v.category).sum + 15 ≤ R.locals := by
    rw [zWt_eq]
    omega
  have hx : inL u := ok_hd ho
  have k2 := zKk_same kk rfl rfl rfl r hS (ok_cons (show inL (if 0 < u then u else wL (-u)) by split; exact hx; exact wL_in _) (ok_tl ho))
  rw [List.map_cons, ← zv_abs hx] at k2
  exact va_mabs_long x1 x2 (x3.trans hls.symm) x4 (x5 _ f2) (x5 _ q1269) (x5 _ q200) (x5 _ q1270) (by omega) (by omega) hcl hsl hdg k2
theorem zS_obj (X : zCtx M p s m args meth c) (r : zRel D s A fz xs L H ρ ws tys h) (hS : va_S A s.heap H locs) (hRF : 16 ≤ R.frames) (hRL : 12000 ≤ R.locals) (hls : lr.size = mLoc M) {x a : Nat} (hdg : decode (mCode M) pc = .ok (.invokespecial x, 3)) (hq : zNat (mCls M) x = some 0) (hw : zWt rest ≤ 8) (ho : ∀ v9 ∈ Sum.inr (Sum.inr (some a)) :: rest, zOk (gN h) v9)
    (kk : zKk p l e R s m args below meth c cells slots Q D A fz xs L ρ h h rest (F0 m (pc + 3) lr)) : W p l e R s m args below meth c H locs cells slots Q (F0 m pc lr ((Sum.inr (Sum.inr (some a)) :: rest).map (zv ρ))) := by
  obtain ⟨x1, x2, x3, x4, x5, x6, -⟩ := X
  obtain ⟨t0, e1, e2⟩ := zLk2_mem hq
  obtain ⟨y, f1, f2⟩ := zYF _ e1 _ e2
  dsimp only at f1 f2
  cases f1
  have hl9 : ((rest.map (zv ρ)).map fun v => v.category).sum + 15 ≤ R.locals := by
    rw [zWt_eq]
    omega
  exact W.objInit (g := F0 m pc lr ((Sum.inr (Sum.inr (some a)) :: rest).map (zv ρ))) x1 x2 x4 (x5 _ f2) (x5 _ q215) (x5 _ q216) rfl (hls.trans x3.symm) rfl hdg (by omega) (by show 2 * 0 + _ + 12 ≤ _; omega) (zKk_same kk rfl rfl rfl r hS (ok_tl ho))
end ZOM
