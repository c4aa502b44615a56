/-! ===== SOUNDNESS, 5: arrays ===== -/
set_option maxRecDepth 100000
theorem mem_at {α : Type} {x : α} {l : List α} (h : x ∈ l) : ∃ i : Nat, l[i]? = some x := List.getElem?_of_mem h
theorem zK_ge {xs : Nat → Int32} {L : Nat} {h : zHp} (w : zWf xs L h) {a k : Nat} (hk : (gK h a).1 = k) (h3 : 3 ≤ k) : zkc ≤ a := by
  rcases Nat.lt_or_ge a zkc with q | q
  · have h1 := (w.2.2.2.2.2 a q).1
    have h2 := zK_of hk
    rw [h1] at h2
    have := zK0_le h2
    omega
  · exact q
/-- an array's cell, its kind kept -/
theorem zCe_k1 {ρ : Nat → Nat} {tys : List (ClassId × FieldType)} {h : zHp} {a n : Nat} {e : va_E} (hk : gK h a = (1, n)) (c : ∃ cA f, e = .inl (cA, n, .inl f) ∧ (cA, FieldType.int) ∈ tys ∧ ∀ j : Nat, j < n → f j = Int32.ofInt (gI h a j)) : zCe ρ tys h a e := by
  refine ⟨fun cc q => ?_, fun n q => ?_, fun n q => ?_, fun n q => ?_, fun n q => ?_, fun k n q5 q => ?_⟩ <;> rw [hk] at q <;> cases q
  · exact c
  · exact absurd q5 (by decide)
theorem zCe_k2 {ρ : Nat → Nat} {tys : List (ClassId × FieldType)} {h : zHp} {a n : Nat} {e : va_E} (hk : gK h a = (2, n)) (c : ∃ cA f, e = .inl (cA, n, .inl f) ∧ (cA, FieldType.byte) ∈ tys ∧ ∀ j : Nat, j < n → f j = Int32.ofInt (gI h a j) ∧ fits .byte (.int (f j)) = true) : zCe ρ tys h a e := by
  refine ⟨fun cc q => ?_, fun n q => ?_, fun n q => ?_, fun n q => ?_, fun n q => ?_, fun k n q5 q => ?_⟩ <;> rw [hk] at q <;> cases q
  · exact c
  · exact absurd q5 (by decide)
theorem zCe_k3 {ρ : Nat → Nat} {tys : List (ClassId × FieldType)} {h : zHp} {a n : Nat} {e : va_E} (hk : gK h a = (3, n)) (c : ∃ cA f, e = .inl (cA, n, .inl f) ∧ (cA, FieldType.short) ∈ tys ∧ ∀ j : Nat, j < n → f j = Int32.ofInt (gI h a j) ∧ fits .short (.int (f j)) = true) : zCe ρ tys h a e := by
  refine ⟨fun cc q => ?_, fun n q => ?_, fun n q => ?_, fun n q => ?_, fun n q => ?_, fun k n q5 q => ?_⟩ <;> rw [hk] at q <;> cases q
  · exact c
  · exact absurd q5 (by decide)
theorem zCe_k4 {ρ : Nat → Nat} {tys : List (ClassId × FieldType)} {h : zHp} {a n : Nat} {e : va_E} (hk : gK h a = (4, n)) (c : ∃ cA f, e = .inl (cA, n, .inr (.inl f)) ∧ (cA, FieldType.long) ∈ tys ∧ ∀ j : Nat, j < n → f j = Int64.ofInt (gJ h a j)) : zCe ρ tys h a e := by
  refine ⟨fun cc q => ?_, fun n q => ?_, fun n q => ?_, fun n q => ?_, fun n q => ?_, fun k n q5 q => ?_⟩ <;> rw [hk] at q <;> cases q
  · exact c
  · exact absurd q5 (by decide)
theorem zCe_k5 {ρ : Nat → Nat} {tys : List (ClassId × FieldType)} {h : zHp} {a k n : Nat} {e : va_E} (h5 : 5 ≤ k) (hk : gK h a = (k, n)) (c : ∃ cA nm f, zLk zAcl k = some nm ∧ e = .inl (cA, n, .inr (.inr (.inr (.inr f)))) ∧ (cA, FieldType.object nm) ∈ tys ∧ ∀ j : Nat, j < n → f j = (gR h a j).map ρ) : zCe ρ tys h a e := by
  refine ⟨fun cc q => ?_, fun n q => ?_, fun n q => ?_, fun n q => ?_, fun n q => ?_, fun k n q5 q => ?_⟩ <;> rw [hk] at q <;> cases q
  · exact absurd h5 (by decide)
  · exact absurd h5 (by decide)
  · exact absurd h5 (by decide)
  · exact absurd h5 (by decide)
  · exact absurd h5 (by decide)
  · exact c
section ZA
variable {p : Program} {l : Launch} {e : Env} {R : Room} {s : State} {m : MethodId} {args : Array Value} {below : List Frame} {meth : Method} {c : Code} {H : Heap} {locs : List Loc} {cells slots : Nat} {Q : State → Prop}
variable {D : va_G} {A : Nat → Prop} {fz : Nat → Nat} {xs : Nat → Int32} {L : Nat} {ρ : Nat → Nat} {ws : va_W} {tys : List (ClassId × FieldType)} {h h' : zHp}
variable {M : zMi} {pc : Nat} {st st' : List zAv} {lr : Array Slot} {len : Nat}
theorem zS_iald (X : zCtx M p s m args meth c) (r : zRel D s A fz xs L H ρ ws tys h) (hf : zFz fz xs L A s s.heap) (hS : va_S A s.heap H locs) {a : Nat} {i : Int} {rest : List zAv} (hdg : decode (mCode M) pc = .ok (.iaload, 1)) (hin : zIn h 1 a i) (ho : ∀ v ∈ Sum.inl i :: Sum.inr (Sum.inr (some a)) :: rest, zOk (gN h) v)
    (kk : zKk p l e R s m args below meth c cells slots Q D A fz xs L ρ h h (.inl (gI h a i) :: rest) (F0 m (pc + 1) lr)) : W p l e R s m args below meth c H locs cells slots Q (F0 m pc lr ((Sum.inl i :: Sum.inr (Sum.inr (some a)) :: rest).map (zv ρ))) := by
  obtain ⟨x1, x2, -⟩ := X
  have wf := r.2.2.2.2.2.1
  have k9 := zKk_same kk rfl rfl rfl r hS (ok_cons (wf.2.1 a i) (ok_tl (ok_tl ho)))
  have hi : inI i := ok_hd ho
  have hk := zK_of hin.1
  by_cases hz : a < zkc
  · obtain ⟨y1, y2, y3⟩ := wf.2.2.2.2.2 a hz
    rw [y1] at hk
    obtain ⟨rfl, z2⟩ := zK0_int hk
    have hin2 : i < (L : Int) := by rw [← z2, ← y1]; exact hin.2.2
    have hv : zv ρ (.inl (gI h 0 i)) = .int (xs (Int32.ofInt i).toNatClampNeg) := by
      show Value.int (Int32.ofInt (gI h 0 i)) = _
      rw [y2, ofI_clamp hi hin.2.1]
      show Value.int (Int32.ofInt (xs i.toNat).toInt) = _
      rw [Int32.ofInt_toInt]
    rw [List.map_cons, hv] at k9
    rw [List.map_cons, List.map_cons]
    show W p l e R s m args below meth c H locs cells slots Q (F0 m pc lr (.int _ :: .ref (ρ 0) :: _))
    rw [r.2.2.2.2.2.2 0 hz]
    exact va_sld x1 x2 hf.1 hf.2.1 hf.2.2.1 hS (ofI_vp hi hin.2.1 hin2) hdg k9
  · have hz := Nat.not_lt.mp hz
    obtain ⟨e9, he, hc⟩ := zRel_at r hz (ok_hd (ok_tl ho))
    obtain ⟨cA, f, rfl, ht, hf9⟩ := hc.2.1 _ hk
    obtain ⟨t0, ht0⟩ := mem_at ht
    have hn : i.toNat < (gK h a).2 := by have := hin.2.2; have := hin.2.1; omega
    have hv : zv ρ (.inl (gI h a i)) = .int (f (Int32.ofInt i).toNatClampNeg) := by
      rw [ofI_clamp hi hin.2.1, hf9 _ hn, Int.toNat_of_nonneg hin.2.1]
      rfl
    rw [List.map_cons, hv] at k9
    exact va_iald x1 x2 r.1 r.2.1 _ t0 he ht0 (ofI_vp hi hin.2.1 hin.2.2) hdg k9
theorem zS_bald (X : zCtx M p s m args meth c) (r : zRel D s A fz xs L H ρ ws tys h) (hf : zFz fz xs L A s s.heap) (hS : va_S A s.heap H locs) {a : Nat} {i : Int} {rest : List zAv} (hdg : decode (mCode M) pc = .ok (.baload, 1)) (hin : zIn h 2 a i) (ho : ∀ v ∈ Sum.inl i :: Sum.inr (Sum.inr (some a)) :: rest, zOk (gN h) v)
    (kk : zKk p l e R s m args below meth c cells slots Q D A fz xs L ρ h h (.inl (gI h a i) :: rest) (F0 m (pc + 1) lr)) : W p l e R s m args below meth c H locs cells slots Q (F0 m pc lr ((Sum.inl i :: Sum.inr (Sum.inr (some a)) :: rest).map (zv ρ))) := by
  obtain ⟨x1, x2, -⟩ := X
  have wf := r.2.2.2.2.2.1
  have k9 := zKk_same kk rfl rfl rfl r hS (ok_cons (wf.2.1 a i) (ok_tl (ok_tl ho)))
  have hi : inI i := ok_hd ho
  have hk := zK_of hin.1
  by_cases hz : a < zkc
  · obtain ⟨y1, y2, y3⟩ := wf.2.2.2.2.2 a hz
    rw [y1] at hk
    obtain ⟨z0, z1, z2⟩ := zK0_byte hk
    obtain ⟨k, hk2⟩ : ∃ k, a = 2 * k + 2 := ⟨(a - 2) / 2, by omega⟩
    have hk3 : (a - 2) / 2 = k := by omega
    have hk32 : k < 32 := by have : a < 65 := hz; omega
    have hT := (hf.2.2.2.2.1 k hk32).2.2.2
    have hin2 : i < ((zTx k).2.2.2.length : Int) := by rw [← hk3, ← z2, ← y1]; exact hin.2.2
    have hv : zv ρ (.inl (gI h a i)) = .int (Int32.ofInt ((zTx k).2.2.2.getD (Int32.ofInt i).toNatClampNeg 0)) := by
      show Value.int (Int32.ofInt (gI h a i)) = _
      rw [y2, ofI_clamp hi hin.2.1]
      unfold zI0
      rw [if_neg z0, if_neg (by omega), hk3]
    rw [List.map_cons, hv] at k9
    rw [List.map_cons, List.map_cons]
    show W p l e R s m args below meth c H locs cells slots Q (F0 m pc lr (.int _ :: .ref (ρ a) :: _))
    rw [r.2.2.2.2.2.2 a hz, hk2]
    exact va_tb x1 x2 hT hS (ofI_vp hi hin.2.1 hin2) rfl hdg k9
  · have hz := Nat.not_lt.mp hz
    obtain ⟨e9, he, hc⟩ := zRel_at r hz (ok_hd (ok_tl ho))
    obtain ⟨cA, f, rfl, ht, hf9⟩ := hc.2.2.1 _ hk
    obtain ⟨t0, ht0⟩ := mem_at ht
    have hn : i.toNat < (gK h a).2 := by have := hin.2.2; have := hin.2.1; omega
    have hv : zv ρ (.inl (gI h a i)) = .int (f (Int32.ofInt i).toNatClampNeg) := by
      rw [ofI_clamp hi hin.2.1, (hf9 _ hn).1, Int.toNat_of_nonneg hin.2.1]
      rfl
    rw [List.map_cons, hv] at k9
    exact va_bald x1 x2 r.1 r.2.1 _ t0 he ht0 (ofI_vp hi hin.2.1 hin.2.2) hdg k9
theorem zS_sald (X : zCtx M p s m args meth c) (r : zRel D s A fz xs L H ρ ws tys h) (hS : va_S A s.heap H locs) {a : Nat} {i : Int} {rest : List zAv} (hdg : decode (mCode M) pc = .ok (.saload, 1)) (hin : zIn h 3 a i) (ho : ∀ v ∈ Sum.inl i :: Sum.inr (Sum.inr (some a)) :: rest, zOk (gN h) v)
    (kk : zKk p l e R s m args below meth c cells slots Q D A fz xs L ρ h h (.inl (gI h a i) :: rest) (F0 m (pc + 1) lr)) : W p l e R s m args below meth c H locs cells slots Q (F0 m pc lr ((Sum.inl i :: Sum.inr (Sum.inr (some a)) :: rest).map (zv ρ))) := by
  obtain ⟨x1, x2, -⟩ := X
  have wf := r.2.2.2.2.2.1
  have k9 := zKk_same kk rfl rfl rfl r hS (ok_cons (wf.2.1 a i) (ok_tl (ok_tl ho)))
  have hi : inI i := ok_hd ho
  have hk := zK_of hin.1
  have hz := zK_ge wf hin.1 (by decide)
  obtain ⟨e9, he, hc⟩ := zRel_at r hz (ok_hd (ok_tl ho))
  obtain ⟨cA, f, rfl, ht, hf9⟩ := hc.2.2.2.1 _ hk
  obtain ⟨t0, ht0⟩ := mem_at ht
  have hn : i.toNat < (gK h a).2 := by have := hin.2.2; have := hin.2.1; omega
  have hv : zv ρ (.inl (gI h a i)) = .int (f (Int32.ofInt i).toNatClampNeg) := by
    rw [ofI_clamp hi hin.2.1, (hf9 _ hn).1, Int.toNat_of_nonneg hin.2.1]
    rfl
  rw [List.map_cons, hv] at k9
  exact va_sald x1 x2 r.1 r.2.1 _ t0 he ht0 (ofI_vp hi hin.2.1 hin.2.2) hdg k9
theorem zS_lald (X : zCtx M p s m args meth c) (r : zRel D s A fz xs L H ρ ws tys h) (hS : va_S A s.heap H locs) {a : Nat} {i : Int} {rest : List zAv} (hdg : decode (mCode M) pc = .ok (.laload, 1)) (hin : zIn h 4 a i) (ho : ∀ v ∈ Sum.inl i :: Sum.inr (Sum.inr (some a)) :: rest, zOk (gN h) v)
    (kk : zKk p l e R s m args below meth c cells slots Q D A fz xs L ρ h h (.inr (.inl (gJ h a i)) :: rest) (F0 m (pc + 1) lr)) : W p l e R s m args below meth c H locs cells slots Q (F0 m pc lr ((Sum.inl i :: Sum.inr (Sum.inr (some a)) :: rest).map (zv ρ))) := by
  obtain ⟨x1, x2, -⟩ := X
  have wf := r.2.2.2.2.2.1
  have k9 := zKk_same kk rfl rfl rfl r hS (ok_cons (show zOk (gN h) (.inr (.inl (gJ h a i))) from wf.2.2.1 a i) (ok_tl (ok_tl ho)))
  have hi : inI i := ok_hd ho
  have hk := zK_of hin.1
  have hz := zK_ge wf hin.1 (by decide)
  obtain ⟨e9, he, hc⟩ := zRel_at r hz (ok_hd (ok_tl ho))
  obtain ⟨cA, f, rfl, ht, hf9⟩ := hc.2.2.2.2.1 _ hk
  obtain ⟨t0, ht0⟩ := mem_at ht
  have hn : i.toNat < (gK h a).2 := by have := hin.2.2; have := hin.2.1; omega
  have hv : zv ρ (.inr (.inl (gJ h a i))) = .long (f (Int32.ofInt i).toNatClampNeg) := by
    rw [ofI_clamp hi hin.2.1, hf9 _ hn, Int.toNat_of_nonneg hin.2.1]
    rfl
  rw [List.map_cons, hv] at k9
  exact va_lald x1 x2 r.1 r.2.1 _ t0 he ht0 (ofI_vp hi hin.2.1 hin.2.2) hdg k9
theorem zS_aald (X : zCtx M p s m args meth c) (r : zRel D s A fz xs L H ρ ws tys h) (hS : va_S A s.heap H locs) {a : Nat} {i : Int} {rest : List zAv} (hdg : decode (mCode M) pc = .ok (.aaload, 1)) (hin : 5 ≤ (gK h a).1 ∧ 0 ≤ i ∧ i < ((gK h a).2 : Int)) (ho : ∀ v ∈ Sum.inl i :: Sum.inr (Sum.inr (some a)) :: rest, zOk (gN h) v)
    (kk : zKk p l e R s m args below meth c cells slots Q D A fz xs L ρ h h (.inr (.inr (gR h a i)) :: rest) (F0 m (pc + 1) lr)) : W p l e R s m args below meth c H locs cells slots Q (F0 m pc lr ((Sum.inl i :: Sum.inr (Sum.inr (some a)) :: rest).map (zv ρ))) := by
  obtain ⟨x1, x2, -⟩ := X
  have wf := r.2.2.2.2.2.1
  have k9 := zKk_same kk rfl rfl rfl r hS (ok_cons (zOk_ref wf a i) (ok_tl (ok_tl ho)))
  have hi : inI i := ok_hd ho
  have hz := zK_ge wf (rfl : (gK h a).1 = _) (Nat.le_trans (by decide) hin.1)
  obtain ⟨e9, he, hc⟩ := zRel_at r hz (ok_hd (ok_tl ho))
  obtain ⟨cA, nm, f, hnm, rfl, ht, hf9⟩ := hc.2.2.2.2.2 _ _ hin.1 rfl
  obtain ⟨t0, ht0⟩ := mem_at ht
  have hn : i.toNat < (gK h a).2 := by have := hin.2.2; have := hin.2.1; omega
  have hv : zv ρ (.inr (.inr (gR h a i))) = va_rf (f (Int32.ofInt i).toNatClampNeg) := by
    rw [ofI_clamp hi hin.2.1, hf9 _ hn, Int.toNat_of_nonneg hin.2.1]
    rfl
  rw [List.map_cons, hv] at k9
  exact va_aldq x1 x2 r.1 r.2.1 _ t0 he ht0 (ofI_vp hi hin.2.1 hin.2.2) hdg k9
theorem zU_nat {α : Type} {f : Int → α} {i : Int} {v : α} (h0 : 0 ≤ i) (j : Nat) : zU f i v (j : Int) = if j = i.toNat then v else f j := by
  unfold zU
  by_cases e9 : j = i.toNat
  · rw [if_pos e9, if_pos (by omega)]
  · rw [if_neg e9, if_neg (by omega)]
theorem zS_iast (X : zCtx M p s m args meth c) (r : zRel D s A fz xs L H ρ ws tys h) (hS : va_S A s.heap H locs) {a : Nat} {i v : Int} {rest : List zAv} (hdg : decode (mCode M) pc = .ok (.iastore, 1)) (hin : zIn h 1 a i) (hz : zkc ≤ a) (ho : ∀ w ∈ Sum.inl v :: Sum.inl i :: Sum.inr (Sum.inr (some a)) :: rest, zOk (gN h) w)
    (kk : zKk p l e R s m args below meth c cells slots Q D A fz xs L ρ h (sI h a i v) rest (F0 m (pc + 1) lr)) : W p l e R s m args below meth c H locs cells slots Q (F0 m pc lr ((Sum.inl v :: Sum.inl i :: Sum.inr (Sum.inr (some a)) :: rest).map (zv ρ))) := by
  obtain ⟨x1, x2, -⟩ := X
  have wf := r.2.2.2.2.2.1
  have hv : inI v := ok_hd ho
  have hi : inI i := ok_hd (ok_tl ho)
  have hk := zK_of hin.1
  obtain ⟨e9, he, hc⟩ := zRel_at r hz (ok_hd (ok_tl (ok_tl ho)))
  obtain ⟨cA, f, rfl, ht, hf9⟩ := hc.2.1 _ hk
  obtain ⟨t0, ht0⟩ := mem_at ht
  refine va_iast x1 x2 r.1 r.2.1 r.2.2.1 hS _ t0 he ht0 (ofI_vp hi hin.2.1 hin.2.2) hdg (fun H1 locs1 hP1 hD1 hS1 => ?_)
  refine zKk_same kk rfl rfl rfl (zRel_set r hz (h' := sI h a i v) rfl rfl (fun b hb => sIA_ne hb) (fun _ _ => rfl) (fun _ _ => rfl) hP1 hD1 (zCe_k1 (n := (gK h a).2) hk ⟨cA, _, rfl, ht, fun j hj => ?_⟩) (zWf_IA wf hz (zU_in (wf.2.1 a) hv))) hS1 (ok_tl (ok_tl (ok_tl ho)))
  show _ = Int32.ofInt (gI (sIA h a _) a j)
  rw [sIA_eq, zU_nat hin.2.1, ofI_clamp hi hin.2.1]
  by_cases e9 : j = i.toNat
  · rw [if_pos e9, e9, pk_us]
  · rw [if_neg e9, pk_un e9]
    exact hf9 j hj
theorem zS_bast (X : zCtx M p s m args meth c) (r : zRel D s A fz xs L H ρ ws tys h) (hS : va_S A s.heap H locs) {a : Nat} {i v : Int} {rest : List zAv} (hdg : decode (mCode M) pc = .ok (.bastore, 1)) (hin : zIn h 2 a i) (hz : zkc ≤ a) (ho : ∀ w ∈ Sum.inl v :: Sum.inl i :: Sum.inr (Sum.inr (some a)) :: rest, zOk (gN h) w)
    (kk : zKk p l e R s m args below meth c cells slots Q D A fz xs L ρ h (sI h a i (zB v)) rest (F0 m (pc + 1) lr)) : W p l e R s m args below meth c H locs cells slots Q (F0 m pc lr ((Sum.inl v :: Sum.inl i :: Sum.inr (Sum.inr (some a)) :: rest).map (zv ρ))) := by
  obtain ⟨x1, x2, -⟩ := X
  have wf := r.2.2.2.2.2.1
  have hi : inI i := ok_hd (ok_tl ho)
  have hk := zK_of hin.1
  obtain ⟨e9, he, hc⟩ := zRel_at r hz (ok_hd (ok_tl (ok_tl ho)))
  obtain ⟨cA, f, rfl, ht, hf9⟩ := hc.2.2.1 _ hk
  obtain ⟨t0, ht0⟩ := mem_at ht
  refine va_bast x1 x2 r.1 r.2.1 r.2.2.1 hS _ t0 he ht0 (ofI_vp hi hin.2.1 hin.2.2) hdg (fun H1 locs1 hP1 hD1 hS1 => ?_)
  refine zKk_same kk rfl rfl rfl (zRel_set r hz (h' := sI h a i (zB v)) rfl rfl (fun b hb => sIA_ne hb) (fun _ _ => rfl) (fun _ _ => rfl) hP1 hD1 (zCe_k2 (n := (gK h a).2) hk ⟨cA, _, rfl, ht, fun j hj => ?_⟩) (zWf_IA wf hz (zU_in (wf.2.1 a) (toI_in _)))) hS1 (ok_tl (ok_tl (ok_tl ho)))
  rw [ofI_clamp hi hin.2.1]
  by_cases e9 : j = i.toNat
  · refine ⟨?_, ?_⟩
    · show _ = Int32.ofInt (gI (sIA h a _) a j)
      rw [sIA_eq, zU_nat hin.2.1, if_pos e9, e9, pk_us, vp_nar_byte]
      exact (Int32.ofInt_toInt _).symm
    · rw [e9, pk_us, vp_nar_byte]
      exact pk_fb _
  · rw [pk_un e9]
    refine ⟨?_, (hf9 j hj).2⟩
    show _ = Int32.ofInt (gI (sIA h a _) a j)
    rw [sIA_eq, zU_nat hin.2.1, if_neg e9]
    exact (hf9 j hj).1
theorem zS_sast (X : zCtx M p s m args meth c) (r : zRel D s A fz xs L H ρ ws tys h) (hS : va_S A s.heap H locs) {a : Nat} {i v : Int} {rest : List zAv} (hdg : decode (mCode M) pc = .ok (.sastore, 1)) (hin : zIn h 3 a i) (hz : zkc ≤ a) (ho : ∀ w ∈ Sum.inl v :: Sum.inl i :: Sum.inr (Sum.inr (some a)) :: rest, zOk (gN h) w)
    (kk : zKk p l e R s m args below meth c cells slots Q D A fz xs L ρ h (sI h a i (zSh v)) rest (F0 m (pc + 1) lr)) : W p l e R s m args below meth c H locs cells slots Q (F0 m pc lr ((Sum.inl v :: Sum.inl i :: Sum.inr (Sum.inr (some a)) :: rest).map (zv ρ))) := by
  obtain ⟨x1, x2, -⟩ := X
  have wf := r.2.2.2.2.2.1
  have hi : inI i := ok_hd (ok_tl ho)
  have hk := zK_of hin.1
  obtain ⟨e9, he, hc⟩ := zRel_at r hz (ok_hd (ok_tl (ok_tl ho)))
  obtain ⟨cA, f, rfl, ht, hf9⟩ := hc.2.2.2.1 _ hk
  obtain ⟨t0, ht0⟩ := mem_at ht
  refine va_sast x1 x2 r.1 r.2.1 r.2.2.1 hS _ t0 he ht0 (ofI_vp hi hin.2.1 hin.2.2) hdg (fun H1 locs1 hP1 hD1 hS1 => ?_)
  refine zKk_same kk rfl rfl rfl (zRel_set r hz (h' := sI h a i (zSh v)) rfl rfl (fun b hb => sIA_ne hb) (fun _ _ => rfl) (fun _ _ => rfl) hP1 hD1 (zCe_k3 (n := (gK h a).2) hk ⟨cA, _, rfl, ht, fun j hj => ?_⟩) (zWf_IA wf hz (zU_in (wf.2.1 a) (toI_in _)))) hS1 (ok_tl (ok_tl (ok_tl ho)))
  rw [ofI_clamp hi hin.2.1]
  by_cases e9 : j = i.toNat
  · refine ⟨?_, ?_⟩
    · show _ = Int32.ofInt (gI (sIA h a _) a j)
      rw [sIA_eq, zU_nat hin.2.1, if_pos e9, e9, pk_us, vp_nar_short]
      exact (Int32.ofInt_toInt _).symm
    · rw [e9, pk_us, vp_nar_short]
      exact pk_fs _
  · rw [pk_un e9]
    refine ⟨?_, (hf9 j hj).2⟩
    show _ = Int32.ofInt (gI (sIA h a _) a j)
    rw [sIA_eq, zU_nat hin.2.1, if_neg e9]
    exact (hf9 j hj).1
theorem zS_last (X : zCtx M p s m args meth c) (r : zRel D s A fz xs L H ρ ws tys h) (hS : va_S A s.heap H locs) {a : Nat} {i v : Int} {rest : List zAv} (hdg : decode (mCode M) pc = .ok (.lastore, 1)) (hin : zIn h 4 a i) (hz : zkc ≤ a) (ho : ∀ w ∈ Sum.inr (Sum.inl v) :: Sum.inl i :: Sum.inr (Sum.inr (some a)) :: rest, zOk (gN h) w)
    (kk : zKk p l e R s m args below meth c cells slots Q D A fz xs L ρ h (sJ h a i v) rest (F0 m (pc + 1) lr)) : W p l e R s m args below meth c H locs cells slots Q (F0 m pc lr ((Sum.inr (Sum.inl v) :: Sum.inl i :: Sum.inr (Sum.inr (some a)) :: rest).map (zv ρ))) := by
  obtain ⟨x1, x2, -⟩ := X
  have wf := r.2.2.2.2.2.1
  have hv : inL v := ok_hd ho
  have hi : inI i := ok_hd (ok_tl ho)
  have hk := zK_of hin.1
  obtain ⟨e9, he, hc⟩ := zRel_at r hz (ok_hd (ok_tl (ok_tl ho)))
  obtain ⟨cA, f, rfl, ht, hf9⟩ := hc.2.2.2.2.1 _ hk
  obtain ⟨t0, ht0⟩ := mem_at ht
  refine va_last x1 x2 r.1 r.2.1 r.2.2.1 hS _ t0 he ht0 (ofI_vp hi hin.2.1 hin.2.2) hdg (fun H1 locs1 hP1 hD1 hS1 => ?_)
  refine zKk_same kk rfl rfl rfl (zRel_set r hz (h' := sJ h a i v) rfl rfl (fun _ _ => rfl) (fun b hb => sJA_ne hb) (fun _ _ => rfl) hP1 hD1 (zCe_k4 (n := (gK h a).2) hk ⟨cA, _, rfl, ht, fun j hj => ?_⟩) (zWf_JA wf (zU_in (wf.2.2.1 a) hv))) hS1 (ok_tl (ok_tl (ok_tl ho)))
  show _ = Int64.ofInt (gJ (sJA h a _) a j)
  rw [sJA_eq, zU_nat hin.2.1, ofI_clamp hi hin.2.1]
  by_cases e9 : j = i.toNat
  · rw [if_pos e9, e9, pk_uLs]
  · rw [if_neg e9, pk_uLn e9]
    exact hf9 j hj
theorem zAsg_nest {k c9 : Nat} {nm : String} (h1 : zAsg k c9 = true) (h2 : zLk zAcl k = some nm) : nm = zCn c9 ∨ Cond.castable (zCn c9) nm ∈ lw_nw := by
  have h3 : ∀ q ∈ zAsgT, ∀ nm, zLk zAcl q.1 = some nm → nm = zCn q.2 ∨ Cond.castable (zCn q.2) nm ∈ lw_nw := by
    refine List.forall_mem_cons.mpr ⟨?_, List.forall_mem_cons.mpr ⟨?_, List.forall_mem_cons.mpr ⟨?_, List.forall_mem_cons.mpr ⟨?_, List.forall_mem_cons.mpr ⟨?_, List.forall_mem_cons.mpr ⟨?_, List.forall_mem_cons.mpr ⟨?_, List.forall_mem_cons.mpr ⟨?_, List.forall_mem_cons.mpr ⟨?_, fun _ h => nomatch h⟩⟩⟩⟩⟩⟩⟩⟩⟩
    · intro nm h; cases h; exact Or.inl rfl
    · intro nm h; cases h; exact Or.inl rfl
    · intro nm h; cases h; exact Or.inl rfl
    · intro nm h; cases h; exact Or.inl rfl
    · intro nm h; cases h; exact Or.inl rfl
    · intro nm h; cases h; exact Or.inl rfl
    · intro nm h; cases h; exact Or.inr (lw_ng q2551 rfl)
    · intro nm h; cases h; exact Or.inr (lw_ng q2552 rfl)
    · intro nm h; cases h; exact Or.inr (lw_ng q2553 rfl)
  unfold zAsg at h1
  rw [List.any_eq_true] at h1
  obtain ⟨q, hq, h4⟩ := h1
  rw [Bool.and_eq_true] at h4
  have e1 := Nat.eq_of_beq_eq_true h4.1
  have e2 := Nat.eq_of_beq_eq_true h4.2
  subst e1; subst e2
  exact h3 q hq nm h2
theorem zCn_of {c9 : Nat} {r9 : vw_C × (Nat → FieldType) × Nat} (h : zCls[c9]? = some r9) : zCn c9 = r9.1.1 := by
  unfold zCn
  have : c9 < 16 := zCls_lt h
  rw [if_neg (by omega), h]
theorem zS_aast (X : zCtx M p s m args meth c) (r : zRel D s A fz xs L H ρ ws tys h) (hS : va_S A s.heap H locs) {a b : Nat} {i : Int} {rest : List zAv} (hdg : decode (mCode M) pc = .ok (.aastore, 1)) (hin : 5 ≤ (gK h a).1 ∧ 0 ≤ i ∧ i < ((gK h a).2 : Int) ∧ zkc ≤ a ∧ zkc ≤ b ∧ (gK h b).1 = 0 ∧ zAsg (gK h a).1 (gK h b).2 = true) (ho : ∀ w ∈ Sum.inr (Sum.inr (some b)) :: Sum.inl i :: Sum.inr (Sum.inr (some a)) :: rest, zOk (gN h) w)
    (kk : zKk p l e R s m args below meth c cells slots Q D A fz xs L ρ h (sR h a i (some b)) rest (F0 m (pc + 1) lr)) : W p l e R s m args below meth c H locs cells slots Q (F0 m pc lr ((Sum.inr (Sum.inr (some b)) :: Sum.inl i :: Sum.inr (Sum.inr (some a)) :: rest).map (zv ρ))) := by
  obtain ⟨x1, x2, -, -, -, x6, -⟩ := X
  obtain ⟨h5, h0, hn, hz, hzb, hkb, hs9⟩ := hin
  have wf := r.2.2.2.2.2.1
  have hb9 : b < gN h := ok_hd ho
  have hi : inI i := ok_hd (ok_tl ho)
  obtain ⟨e9, he, hc⟩ := zRel_at r hz (ok_hd (ok_tl (ok_tl ho)))
  obtain ⟨cA, nm, f, hnm, rfl, ht, hf9⟩ := hc.2.2.2.2.2 _ _ h5 rfl
  obtain ⟨t0, ht0⟩ := mem_at ht
  obtain ⟨eb, heb, hcb⟩ := zRel_at r hzb hb9
  obtain ⟨r9, fs, f1, rfl, f3, f4⟩ := hcb.1 _ (zK_of hkb)
  obtain ⟨g1, g2⟩ := zCls_at f1
  have kk9 : ∀ (H1 : Heap) (locs1 : List Loc), va_P D zcl (ws.set (a - zkc) (ρ a, .inl (cA, (gK h a).2, .inr (.inr (.inr (.inr (va_up f (Int32.ofInt i).toNatClampNeg (some (ρ b))))))))) H1 → va_D A (ws.set (a - zkc) (ρ a, .inl (cA, (gK h a).2, .inr (.inr (.inr (.inr (va_up f (Int32.ofInt i).toNatClampNeg (some (ρ b))))))))) → va_S A s.heap H1 locs1 → W p l e R s m args below meth c H1 locs1 cells slots Q (F0 m (pc + 1) lr (rest.map (zv ρ))) := fun H1 locs1 hP1 hD1 hS1 => by
    refine zKk_same kk rfl rfl rfl (zRel_set r hz (h' := sR h a i (some b)) rfl rfl (fun _ _ => rfl) (fun _ _ => rfl) (fun b hb => sRA_ne hb) hP1 hD1 (zCe_k5 h5 (rfl : gK h a = _) ⟨cA, nm, _, hnm, rfl, ht, fun j hj => ?_⟩) (zWf_RA wf hz (fun j y hy => ?_) (fun _ j y hy => ?_))) hS1 (ok_tl (ok_tl (ok_tl ho)))
    · show _ = (gR (sRA h a _) a j).map ρ
      rw [sRA_eq, zU_nat h0, ofI_clamp hi h0]
      by_cases e9 : j = i.toNat
      · rw [if_pos e9, e9, va_up_self]
        rfl
      · rw [if_neg e9, va_up_ne _ _ e9]
        exact hf9 j hj
    · unfold zU at hy
      split at hy
      · cases hy
        exact hb9
      · exact wf.2.2.2.1 a j y hy
    · unfold zU at hy
      split at hy
      · cases hy
        exact ⟨hzb, hkb, hs9⟩
      · exact wf.2.2.2.2.1 a j y h5 hy
  rcases zAsg_nest hs9 hnm with e1 | e1
  · rw [zCn_of f1] at e1
    subst e1
    exact va_astq x1 x2 r.1 r.2.1 r.2.2.1 hS _ t0 _ _ he ht0 heb g1 (ofI_vp hi h0 hn) hdg kk9
  · rw [zCn_of f1] at e1
    exact va_astqO x1 x2 r.1 r.2.1 r.2.2.1 hS _ t0 _ _ he ht0 (x6 _ e1) heb g1 (ofI_vp hi h0 hn) hdg kk9
theorem zS_alen (X : zCtx M p s m args meth c) (r : zRel D s A fz xs L H ρ ws tys h) (hf : zFz fz xs L A s s.heap) (hS : va_S A s.heap H locs) {a : Nat} {rest : List zAv} (hdg : decode (mCode M) pc = .ok (.arraylength, 1)) (hk1 : 1 ≤ (gK h a).1) (ho : ∀ v ∈ Sum.inr (Sum.inr (some a)) :: rest, zOk (gN h) v)
    (kk : zKk p l e R s m args below meth c cells slots Q D A fz xs L ρ h h (.inl ((gK h a).2 : Int) :: rest) (F0 m (pc + 1) lr)) : W p l e R s m args below meth c H locs cells slots Q (F0 m pc lr ((Sum.inr (Sum.inr (some a)) :: rest).map (zv ρ))) := by
  obtain ⟨x1, x2, -⟩ := X
  have wf := r.2.2.2.2.2.1
  have k9 := zKk_same kk rfl rfl rfl r hS (ok_cons (show inI _ from ⟨by omega, by have := wf.1.2 a; omega⟩) (ok_tl ho))
  have hv : zv ρ (.inl ((gK h a).2 : Int)) = .int (Int32.ofNat (gK h a).2) := congrArg Value.int (ofI_nat _)
  rw [List.map_cons, hv] at k9
  by_cases hz : a < zkc
  · obtain ⟨y1, y2, y3⟩ := wf.2.2.2.2.2 a hz
    rw [List.map_cons]
    show W p l e R s m args below meth c H locs cells slots Q (F0 m pc lr (.ref (ρ a) :: _))
    rw [r.2.2.2.2.2.2 a hz]
    rw [y1] at k9 hk1
    by_cases e0 : a = 0
    · subst e0
      exact va_slen x1 x2 hf.1 hf.2.1 hf.2.2.1 hS hdg k9
    · by_cases e1 : a % 2 = 1
      · have : zK0 L a = (0, 16) := by unfold zK0; rw [if_neg e0, if_pos e1]
        rw [this] at hk1
        exact absurd hk1 (by decide)
      · have e2 : zK0 L a = (2, (zTx ((a - 2) / 2)).2.2.2.length) := by unfold zK0; rw [if_neg e0, if_neg e1]
        rw [e2] at k9
        obtain ⟨k, hk2⟩ : ∃ k, a = 2 * k + 2 := ⟨(a - 2) / 2, by omega⟩
        have hk3 : (a - 2) / 2 = k := by omega
        have hk32 : k < 32 := by have : a < 65 := hz; omega
        have hT := (hf.2.2.2.2.1 k hk32).2.2.2
        rw [hk3] at k9
        rw [hk2]
        exact va_tlen x1 x2 hT hS rfl hdg k9
  · have hz := Nat.not_lt.mp hz
    obtain ⟨e9, he, hc⟩ := zRel_at r hz (ok_hd ho)
    have hcase : ∃ cA xA ty, e9 = .inl (cA, xA) ∧ xA.1 = (gK h a).2 ∧ (cA, ty) ∈ tys := by
      generalize hg : gK h a = kd
      obtain ⟨t, n⟩ := kd
      rw [hg] at hk1
      match t, hk1 with
      | 1, _ =>
        obtain ⟨cA, f, rfl, ht, -⟩ := hc.2.1 _ hg
        exact ⟨cA, _, _, rfl, rfl, ht⟩
      | 2, _ =>
        obtain ⟨cA, f, rfl, ht, -⟩ := hc.2.2.1 _ hg
        exact ⟨cA, _, _, rfl, rfl, ht⟩
      | 3, _ =>
        obtain ⟨cA, f, rfl, ht, -⟩ := hc.2.2.2.1 _ hg
        exact ⟨cA, _, _, rfl, rfl, ht⟩
      | 4, _ =>
        obtain ⟨cA, f, rfl, ht, -⟩ := hc.2.2.2.2.1 _ hg
        exact ⟨cA, _, _, rfl, rfl, ht⟩
      | t + 5, _ =>
        obtain ⟨cA, nm, f, -, rfl, ht, -⟩ := hc.2.2.2.2.2 _ _ (Nat.le_add_left 5 t) hg
        exact ⟨cA, _, _, rfl, rfl, ht⟩
    obtain ⟨cA, xA, ty, rfl, hx9, ht⟩ := hcase
    obtain ⟨t0, ht0⟩ := mem_at ht
    exact va_alen x1 x2 r.1 r.2.1 _ t0 he ht0 (by rw [hx9]) hdg k9
end ZA
