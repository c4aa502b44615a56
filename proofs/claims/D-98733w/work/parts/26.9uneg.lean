/-! ===== SOUNDNESS, 9b: an array of a size below nought ===== -/
section ZOU
variable {p : Program} {l : Launch} {e : Env} {R : Room} {s : State} {m : MethodId} {args : Array Value} {below : List Frame} {meth : Method} {c : Code} {H : Heap} {locs : List Loc} {cells slots : Nat} {Q : State → Prop}
variable {D : va_G} {A : Nat → Prop} {fz : Nat → Nat} {xs : Nat → Int32} {L : Nat} {ρ : Nat → Nat} {ws : va_W} {tys : List (ClassId × FieldType)} {h h' : zHp}
variable {M : zMi} {pc : Nat} {st st' rest : List zAv} {lr : Array Slot} {len : Nat}
theorem txt_short {t : String} (h9 : t.toList.length ≤ 31) : (t == notModelled) = false := by
  refine beq_false_of_ne (fun e9 => ?_)
  subst e9
  exact absurd h9 (by decide)
theorem txt_bytes {t : String} {k : Nat} (h9 : t.toList.length ≤ k) : (stringBytes (stringToUtf16 t)).size ≤ 4 * k := by
  have h1 := stringBytes_size_le (stringToUtf16 t)
  have h2 := utf16_size_le t
  omega
theorem zS_newarrayZ (X : zCtx M p s m args meth c) (r : zRel D s A fz xs L H ρ ws tys h) (hf : zFz fz xs L A s s.heap) (hS : va_S A s.heap H locs) (hst : l.stackTraces = false) (hRF : 16 ≤ R.frames) (hRL : 12000 ≤ R.locals) (hcl : cells + 3 ≤ R.cells) (hsl : slots + 400 ≤ R.slots) (hls : lr.size = mLoc M) {t : ArrayType} {n : Int} (hdg : decode (mCode M) pc = .ok (.newarray t, 2)) (hn : n < 0) (hw : zWt rest ≤ 8) (ho : ∀ v9 ∈ Sum.inl n :: rest, zOk (gN h) v9)
    (kk : zTk p l e R s m args below meth c cells slots Q D A fz xs L ρ ws tys locs h 30 pc lr) : W p l e R s m args below meth c H locs cells slots Q (F0 m pc lr ((Sum.inl n :: rest).map (zv ρ))) := by
  have hi : inI n := ok_hd ho
  have h0 : Int32.ofInt n < 0 := (ofI_lt hi ⟨by decide, by decide⟩ : Int32.ofInt n < Int32.ofInt 0 ↔ n < 0).mpr hn
  have hp := int32_print (Int32.ofInt n)
  refine vx_newarrayZ X.1 X.2.1 h0 hdg (fun tx htx => ?_)
  exact zS_vm X r hf hS hst hRF hRL hcl hsl hls (Or.inr rfl) hw (by rw [htx]; exact txt_short (by omega)) (by rw [htx]; exact Nat.le_trans (txt_bytes hp) (by decide)) kk
end ZOU
