/-! ===== SOUNDNESS, 7: kinds of arrays asked; copies; the JDK's own members ===== -/
set_option maxRecDepth 100000
section ZO
variable {p : Program} {l : Launch} {e : Env} {R : Room} {s : State} {m : MethodId} {args : Array Value} {below : List Frame} {meth : Method} {c : Code} {H : Heap} {locs : List Loc} {cells slots : Nat} {Q : State → Prop}
variable {D : va_G} {A : Nat → Prop} {fz : Nat → Nat} {xs : Nat → Int32} {L : Nat} {ρ : Nat → Nat} {ws : va_W} {tys : List (ClassId × FieldType)} {h h' : zHp}
variable {M : zMi} {pc : Nat} {st st' rest : List zAv} {lr : Array Slot} {len : Nat}
/-- an array's cell and its own name -/
theorem zArr_cell (r : zRel D s A fz xs L H ρ ws tys h) {a k : Nat} {nm : String} (h1 : zkc ≤ a) (h2 : a < gN h) (hk : (gK h a).1 = k) (hn : zLk zTyN k = some nm) : ∃ cell : Cell, H[ρ a]? = some cell ∧ cell.vm.isStatics = false ∧ s.vm.findClass nm = some cell.cls := by
  obtain ⟨e9, he, hc⟩ := zRel_at r h1 h2
  have hP := r.2.1 _ _ he
  have hk2 := zK_of hk
  have hm : (k, nm) ∈ zTyN := zLk_mem hn
  simp only [zTyN, List.mem_cons, List.not_mem_nil, or_false, Prod.mk.injEq] at hm
  rcases hm with ⟨rfl, rfl⟩ | ⟨rfl, rfl⟩ | ⟨rfl, rfl⟩ | ⟨rfl, rfl⟩
  · obtain ⟨cA, f, rfl, ht, -⟩ := hc.2.1 _ hk2
    obtain ⟨t0, ht0⟩ := mem_at ht
    exact ⟨_, hP, rfl, (r.1.2 t0 _ ht0).2⟩
  · obtain ⟨cA, f, rfl, ht, -⟩ := hc.2.2.1 _ hk2
    obtain ⟨t0, ht0⟩ := mem_at ht
    exact ⟨_, hP, rfl, (r.1.2 t0 _ ht0).2⟩
  · obtain ⟨cA, f, rfl, ht, -⟩ := hc.2.2.2.1 _ hk2
    obtain ⟨t0, ht0⟩ := mem_at ht
    exact ⟨_, hP, rfl, (r.1.2 t0 _ ht0).2⟩
  · obtain ⟨cA, f, rfl, ht, -⟩ := hc.2.2.2.2.1 _ hk2
    obtain ⟨t0, ht0⟩ := mem_at ht
    exact ⟨_, hP, rfl, (r.1.2 t0 _ ht0).2⟩
theorem zTyN_nc {k t : Nat} {nk nt : String} (h1 : zLk zTyN k = some nk) (h2 : zLk zTyN t = some nt) (hne : k ≠ t) (h3 : t ≤ 3) : (nk, nt) ∈ zNcT := by
  have a1 : (k, nk) ∈ zTyN := zLk_mem h1
  have a2 : (t, nt) ∈ zTyN := zLk_mem h2
  simp only [zTyN, List.mem_cons, List.not_mem_nil, or_false, Prod.mk.injEq] at a1 a2
  rcases a1 with ⟨rfl, rfl⟩ | ⟨rfl, rfl⟩ | ⟨rfl, rfl⟩ | ⟨rfl, rfl⟩ <;> rcases a2 with ⟨rfl, rfl⟩ | ⟨rfl, rfl⟩ | ⟨rfl, rfl⟩ | ⟨rfl, rfl⟩ <;> first | exact absurd rfl hne | exact absurd h3 (by decide) | decide +kernel
theorem zTyN_some {k : Nat} (h1 : 1 ≤ k) (h4 : k ≤ 4) : ∃ nm, zLk zTyN k = some nm := by
  match k, h1, h4 with
  | 1, _, _ => exact ⟨_, rfl⟩
  | 2, _, _ => exact ⟨_, rfl⟩
  | 3, _, _ => exact ⟨_, rfl⟩
  | 4, _, _ => exact ⟨_, rfl⟩
theorem zS_inst (X : zCtx M p s m args meth c) (r : zRel D s A fz xs L H ρ ws tys h) (hS : va_S A s.heap H locs) {x a t : Nat} (hdg : decode (mCode M) pc = .ok (.instanceof x, 3)) (hz : zkc ≤ a) (h1 : 1 ≤ (gK h a).1) (h4 : (gK h a).1 ≤ 4) (ht : zTyp (mCls M) x = some t) (h3 : t ≤ 3) (ho : ∀ v ∈ Sum.inr (Sum.inr (some a)) :: rest, zOk (gN h) v)
    (kk : zKk p l e R s m args below meth c cells slots Q D A fz xs L ρ h h (.inl (if (gK h a).1 = t then 1 else 0) :: rest) (F0 m (pc + 3) lr)) : W p l e R s m args below meth c H locs cells slots Q (F0 m pc lr ((Sum.inr (Sum.inr (some a)) :: rest).map (zv ρ))) := by
  obtain ⟨x1, x2, x3, x4, x5, x6, x7, -⟩ := X
  obtain ⟨u, e1, e2⟩ := zLk2_mem ht
  obtain ⟨nt, f1, f2⟩ := zTF _ e1 _ e2
  dsimp only at f1 f2
  obtain ⟨nk, g1⟩ := zTyN_some h1 h4
  have hc := zArr_cell r hz (ok_hd ho) rfl g1
  by_cases e9 : (gK h a).1 = t
  · rw [if_pos e9] at kk
    rw [e9] at g1
    cases Option.some.inj (g1.symm.trans f1)
    exact va_instE x1 x2 x4 (x5 _ f2) hc hdg (zKk_same kk rfl rfl rfl r hS (ok_cons (show inI 1 from ⟨by decide, by decide⟩) (ok_tl ho)))
  · rw [if_neg e9] at kk
    exact va_instNo x1 x2 x4 (x5 _ f2) (x7 _ (zTyN_nc g1 f1 e9 h3)) hc hdg (zKk_same kk rfl rfl rfl r hS (ok_cons in_0 (ok_tl ho)))
theorem zS_cast (X : zCtx M p s m args meth c) (r : zRel D s A fz xs L H ρ ws tys h) (hS : va_S A s.heap H locs) {x a t : Nat} (hdg : decode (mCode M) pc = .ok (.checkcast x, 3)) (hz : zkc ≤ a) (ht : zTyp (mCls M) x = some t) (hk : (gK h a).1 = t) (ho : ∀ v ∈ Sum.inr (Sum.inr (some a)) :: rest, zOk (gN h) v)
    (kk : zKk p l e R s m args below meth c cells slots Q D A fz xs L ρ h h (.inr (.inr (some a)) :: rest) (F0 m (pc + 3) lr)) : W p l e R s m args below meth c H locs cells slots Q (F0 m pc lr ((Sum.inr (Sum.inr (some a)) :: rest).map (zv ρ))) := by
  obtain ⟨x1, x2, x3, x4, x5, -⟩ := X
  obtain ⟨u, e1, e2⟩ := zLk2_mem ht
  obtain ⟨nt, f1, f2⟩ := zTF _ e1 _ e2
  dsimp only at f1 f2
  exact va_castE x1 x2 x4 (x5 _ f2) (zArr_cell r hz (ok_hd ho) hk f1) hdg (zKk_same kk rfl rfl rfl r hS ho)
/-! copies -/
theorem zCpF_nat {α : Type} {f g : Int → α} {sp dp n : Int} (h0 : 0 ≤ sp) (h1 : 0 ≤ dp) (h2 : 0 ≤ n) (j : Nat) : zCpF f g sp dp n (j : Int) = if dp.toNat ≤ j ∧ j < dp.toNat + n.toNat then f ((sp.toNat + (j - dp.toNat) : Nat) : Int) else g j := by
  unfold zCpF
  by_cases e9 : dp.toNat ≤ j ∧ j < dp.toNat + n.toNat
  · rw [if_pos e9, if_pos (by omega)]
    congr 1
    omega
  · rw [if_neg e9, if_neg (by omega)]
theorem zCpF_in {P : Int → Prop} {f g : Int → Int} {sp dp n : Int} (hf : ∀ k, P (f k)) (hg : ∀ k, P (g k)) (k : Int) : P (zCpF f g sp dp n k) := by
  unfold zCpF
  split
  · exact hf _
  · exact hg _
theorem zS_cpyi (X : zCtx M p s m args meth c) (r : zRel D s A fz xs L H ρ ws tys h) (hS : va_S A s.heap H locs) (hRF : 16 ≤ R.frames) (hRL : 12000 ≤ R.locals) (hls : lr.size = mLoc M) {x a b : Nat} {sp dp n : Int} (hdg : decode (mCode M) pc = .ok (.invokestatic x, 3)) (hq : zNat (mCls M) x = some 2) (hw : zWt rest ≤ 8) (hok : zCpOk h a sp b dp n) (hci : zCpIn h a sp b dp n) (hk : (gK h a).1 = 1) (ho : ∀ v ∈ Sum.inl n :: Sum.inl dp :: Sum.inr (Sum.inr (some b)) :: Sum.inl sp :: Sum.inr (Sum.inr (some a)) :: rest, zOk (gN h) v)
    (kk : zKk p l e R s m args below meth c cells slots Q D A fz xs L ρ h (zCpy h a sp b dp n) rest (F0 m (pc + 3) lr)) : W p l e R s m args below meth c H locs cells slots Q (F0 m pc lr ((Sum.inl n :: Sum.inl dp :: Sum.inr (Sum.inr (some b)) :: Sum.inl sp :: Sum.inr (Sum.inr (some a)) :: rest).map (zv ρ))) := by
  obtain ⟨x1, x2, x3, x4, x5, x6, -⟩ := X
  obtain ⟨u, e1, e2⟩ := zLk2_mem hq
  obtain ⟨y, f1, f2⟩ := zYF _ e1 _ e2
  dsimp only at f1 f2
  cases f1
  obtain ⟨hza, hzb, hk1, hkk, hs0, hd0, hn0⟩ := hok
  obtain ⟨hc1, hc2⟩ := hci
  have wf := r.2.2.2.2.2.1
  have ho1 := ok_tl ho
  have ho2 := ok_tl ho1
  have ho3 := ok_tl ho2
  have ho4 := ok_tl ho3
  have hin : inI n := ok_hd ho
  have hid : inI dp := ok_hd ho1
  have his : inI sp := ok_hd ho3
  have hl9 : ((rest.map (zv ρ)).map fun v => v.category).sum + (nativeFrameWords "java/lang/System" "arraycopy" 5 + 11) ≤ R.locals := by
    rw [zWt_eq]
    have h9 : nativeFrameWords "java/lang/System" "arraycopy" 5 ≤ 1000 := by decide +kernel
    omega
  have cs := ofI_clamp his hs0
  have cd := ofI_clamp hid hd0
  have cn := ofI_clamp hin hn0
  obtain ⟨ea, hea, hca⟩ := zRel_at r hza (ok_hd ho4)
  obtain ⟨eb, heb, hcb⟩ := zRel_at r hzb (ok_hd ho2)
  have hka := zK_of hk
  have hkb : gK h b = (1, (gK h b).2) := zK_of (hkk.symm.trans hk)
  obtain ⟨cA, f, rfl, hta, hfa⟩ := hca.2.1 _ hka
  obtain ⟨cB, g, rfl, htb, hfb⟩ := hcb.2.1 _ hkb
  obtain ⟨ta, hta⟩ := mem_at hta
  obtain ⟨tb, htb2⟩ := mem_at htb
  have e0 : zCpy h a sp b dp n = sIA h b (zCpF (gI h a) (gI h b) sp dp n) := if_pos (by rw [hk]; decide)
  rw [e0] at kk
  refine va_copyi (ty := .int) x1 x2 (x3.trans hls.symm) x4 (x5 _ f2) (x5 _ q650) (x5 _ q649) (x5 _ q190) r.1 r.2.1 r.2.2.1 hS _ _ ta tb hea heb hta htb2 rfl ((ofI_neg his).mpr hs0) ((ofI_neg hid).mpr hd0) ((ofI_neg hin).mpr hn0) (by rw [cs, cn]; omega) (by rw [cd, cn]; omega) (fun _ _ => rfl) (by omega) hl9 hdg (fun H1 locs1 hP1 hD1 hS1 => ?_)
  refine zKk_same kk rfl rfl rfl (zRel_set r hzb (h' := sIA h b _) rfl rfl (fun b9 hb => sIA_ne hb) (fun _ _ => rfl) (fun _ _ => rfl) hP1 hD1 (zCe_k1 (n := (gK h b).2) hkb ⟨cB, _, rfl, htb, fun j hj => ?_⟩) (zWf_IA wf hzb (zCpF_in (wf.2.1 a) (wf.2.1 b)))) hS1 (ok_tl ho4)
  · rw [sIA_eq, zCpF_nat hs0 hd0 hn0, cs, cd, cn]
    show (if dp.toNat ≤ j ∧ j < dp.toNat + n.toNat then f (sp.toNat + (j - dp.toNat)) else g j) = _
    by_cases e9 : dp.toNat ≤ j ∧ j < dp.toNat + n.toNat
    · rw [if_pos e9, if_pos e9]
      exact (hfa _ (by omega))
    · rw [if_neg e9, if_neg e9]
      exact (hfb j hj)
theorem zS_cpyb (X : zCtx M p s m args meth c) (r : zRel D s A fz xs L H ρ ws tys h) (hS : va_S A s.heap H locs) (hRF : 16 ≤ R.frames) (hRL : 12000 ≤ R.locals) (hls : lr.size = mLoc M) {x a b : Nat} {sp dp n : Int} (hdg : decode (mCode M) pc = .ok (.invokestatic x, 3)) (hq : zNat (mCls M) x = some 2) (hw : zWt rest ≤ 8) (hok : zCpOk h a sp b dp n) (hci : zCpIn h a sp b dp n) (hk : (gK h a).1 = 2) (ho : ∀ v ∈ Sum.inl n :: Sum.inl dp :: Sum.inr (Sum.inr (some b)) :: Sum.inl sp :: Sum.inr (Sum.inr (some a)) :: rest, zOk (gN h) v)
    (kk : zKk p l e R s m args below meth c cells slots Q D A fz xs L ρ h (zCpy h a sp b dp n) rest (F0 m (pc + 3) lr)) : W p l e R s m args below meth c H locs cells slots Q (F0 m pc lr ((Sum.inl n :: Sum.inl dp :: Sum.inr (Sum.inr (some b)) :: Sum.inl sp :: Sum.inr (Sum.inr (some a)) :: rest).map (zv ρ))) := by
  obtain ⟨x1, x2, x3, x4, x5, x6, -⟩ := X
  obtain ⟨u, e1, e2⟩ := zLk2_mem hq
  obtain ⟨y, f1, f2⟩ := zYF _ e1 _ e2
  dsimp only at f1 f2
  cases f1
  obtain ⟨hza, hzb, hk1, hkk, hs0, hd0, hn0⟩ := hok
  obtain ⟨hc1, hc2⟩ := hci
  have wf := r.2.2.2.2.2.1
  have ho1 := ok_tl ho
  have ho2 := ok_tl ho1
  have ho3 := ok_tl ho2
  have ho4 := ok_tl ho3
  have hin : inI n := ok_hd ho
  have hid : inI dp := ok_hd ho1
  have his : inI sp := ok_hd ho3
  have hl9 : ((rest.map (zv ρ)).map fun v => v.category).sum + (nativeFrameWords "java/lang/System" "arraycopy" 5 + 11) ≤ R.locals := by
    rw [zWt_eq]
    have h9 : nativeFrameWords "java/lang/System" "arraycopy" 5 ≤ 1000 := by decide +kernel
    omega
  have cs := ofI_clamp his hs0
  have cd := ofI_clamp hid hd0
  have cn := ofI_clamp hin hn0
  obtain ⟨ea, hea, hca⟩ := zRel_at r hza (ok_hd ho4)
  obtain ⟨eb, heb, hcb⟩ := zRel_at r hzb (ok_hd ho2)
  have hka := zK_of hk
  have hkb : gK h b = (2, (gK h b).2) := zK_of (hkk.symm.trans hk)
  obtain ⟨cA, f, rfl, hta, hfa⟩ := hca.2.2.1 _ hka
  obtain ⟨cB, g, rfl, htb, hfb⟩ := hcb.2.2.1 _ hkb
  obtain ⟨ta, hta⟩ := mem_at hta
  obtain ⟨tb, htb2⟩ := mem_at htb
  have e0 : zCpy h a sp b dp n = sIA h b (zCpF (gI h a) (gI h b) sp dp n) := if_pos (by rw [hk]; decide)
  rw [e0] at kk
  refine va_copyi (ty := .byte) x1 x2 (x3.trans hls.symm) x4 (x5 _ f2) (x5 _ q650) (x5 _ q649) (x5 _ q190) r.1 r.2.1 r.2.2.1 hS _ _ ta tb hea heb hta htb2 rfl ((ofI_neg his).mpr hs0) ((ofI_neg hid).mpr hd0) ((ofI_neg hin).mpr hn0) (by rw [cs, cn]; omega) (by rw [cd, cn]; omega) (fun i hi9 => (hfa _ (by rw [cs]; rw [cn] at hi9; omega)).2) (by omega) hl9 hdg (fun H1 locs1 hP1 hD1 hS1 => ?_)
  refine zKk_same kk rfl rfl rfl (zRel_set r hzb (h' := sIA h b _) rfl rfl (fun b9 hb => sIA_ne hb) (fun _ _ => rfl) (fun _ _ => rfl) hP1 hD1 (zCe_k2 (n := (gK h b).2) hkb ⟨cB, _, rfl, htb, fun j hj => ⟨?_, ?_⟩⟩) (zWf_IA wf hzb (zCpF_in (wf.2.1 a) (wf.2.1 b)))) hS1 (ok_tl ho4)
  · rw [sIA_eq, zCpF_nat hs0 hd0 hn0, cs, cd, cn]
    show (if dp.toNat ≤ j ∧ j < dp.toNat + n.toNat then f (sp.toNat + (j - dp.toNat)) else g j) = _
    by_cases e9 : dp.toNat ≤ j ∧ j < dp.toNat + n.toNat
    · rw [if_pos e9, if_pos e9]
      exact (hfa _ (by omega)).1
    · rw [if_neg e9, if_neg e9]
      exact (hfb j hj).1
  · rw [cs, cd, cn]
    show fits .byte (.int (if dp.toNat ≤ j ∧ j < dp.toNat + n.toNat then f (sp.toNat + (j - dp.toNat)) else g j)) = true
    by_cases e9 : dp.toNat ≤ j ∧ j < dp.toNat + n.toNat
    · rw [if_pos e9]
      exact (hfa _ (by omega)).2
    · rw [if_neg e9]
      exact (hfb j hj).2
theorem zS_cpys (X : zCtx M p s m args meth c) (r : zRel D s A fz xs L H ρ ws tys h) (hS : va_S A s.heap H locs) (hRF : 16 ≤ R.frames) (hRL : 12000 ≤ R.locals) (hls : lr.size = mLoc M) {x a b : Nat} {sp dp n : Int} (hdg : decode (mCode M) pc = .ok (.invokestatic x, 3)) (hq : zNat (mCls M) x = some 2) (hw : zWt rest ≤ 8) (hok : zCpOk h a sp b dp n) (hci : zCpIn h a sp b dp n) (hk : (gK h a).1 = 3) (ho : ∀ v ∈ Sum.inl n :: Sum.inl dp :: Sum.inr (Sum.inr (some b)) :: Sum.inl sp :: Sum.inr (Sum.inr (some a)) :: rest, zOk (gN h) v)
    (kk : zKk p l e R s m args below meth c cells slots Q D A fz xs L ρ h (zCpy h a sp b dp n) rest (F0 m (pc + 3) lr)) : W p l e R s m args below meth c H locs cells slots Q (F0 m pc lr ((Sum.inl n :: Sum.inl dp :: Sum.inr (Sum.inr (some b)) :: Sum.inl sp :: Sum.inr (Sum.inr (some a)) :: rest).map (zv ρ))) := by
  obtain ⟨x1, x2, x3, x4, x5, x6, -⟩ := X
  obtain ⟨u, e1, e2⟩ := zLk2_mem hq
  obtain ⟨y, f1, f2⟩ := zYF _ e1 _ e2
  dsimp only at f1 f2
  cases f1
  obtain ⟨hza, hzb, hk1, hkk, hs0, hd0, hn0⟩ := hok
  obtain ⟨hc1, hc2⟩ := hci
  have wf := r.2.2.2.2.2.1
  have ho1 := ok_tl ho
  have ho2 := ok_tl ho1
  have ho3 := ok_tl ho2
  have ho4 := ok_tl ho3
  have hin : inI n := ok_hd ho
  have hid : inI dp := ok_hd ho1
  have his : inI sp := ok_hd ho3
  have hl9 : ((rest.map (zv ρ)).map fun v => v.category).sum + (nativeFrameWords "java/lang/System" "arraycopy" 5 + 11) ≤ R.locals := by
    rw [zWt_eq]
    have h9 : nativeFrameWords "java/lang/System" "arraycopy" 5 ≤ 1000 := by decide +kernel
    omega
  have cs := ofI_clamp his hs0
  have cd := ofI_clamp hid hd0
  have cn := ofI_clamp hin hn0
  obtain ⟨ea, hea, hca⟩ := zRel_at r hza (ok_hd ho4)
  obtain ⟨eb, heb, hcb⟩ := zRel_at r hzb (ok_hd ho2)
  have hka := zK_of hk
  have hkb : gK h b = (3, (gK h b).2) := zK_of (hkk.symm.trans hk)
  obtain ⟨cA, f, rfl, hta, hfa⟩ := hca.2.2.2.1 _ hka
  obtain ⟨cB, g, rfl, htb, hfb⟩ := hcb.2.2.2.1 _ hkb
  obtain ⟨ta, hta⟩ := mem_at hta
  obtain ⟨tb, htb2⟩ := mem_at htb
  have e0 : zCpy h a sp b dp n = sIA h b (zCpF (gI h a) (gI h b) sp dp n) := if_pos (by rw [hk]; decide)
  rw [e0] at kk
  refine va_copyi (ty := .short) x1 x2 (x3.trans hls.symm) x4 (x5 _ f2) (x5 _ q650) (x5 _ q649) (x5 _ q190) r.1 r.2.1 r.2.2.1 hS _ _ ta tb hea heb hta htb2 rfl ((ofI_neg his).mpr hs0) ((ofI_neg hid).mpr hd0) ((ofI_neg hin).mpr hn0) (by rw [cs, cn]; omega) (by rw [cd, cn]; omega) (fun i hi9 => (hfa _ (by rw [cs]; rw [cn] at hi9; omega)).2) (by omega) hl9 hdg (fun H1 locs1 hP1 hD1 hS1 => ?_)
  refine zKk_same kk rfl rfl rfl (zRel_set r hzb (h' := sIA h b _) rfl rfl (fun b9 hb => sIA_ne hb) (fun _ _ => rfl) (fun _ _ => rfl) hP1 hD1 (zCe_k3 (n := (gK h b).2) hkb ⟨cB, _, rfl, htb, fun j hj => ⟨?_, ?_⟩⟩) (zWf_IA wf hzb (zCpF_in (wf.2.1 a) (wf.2.1 b)))) hS1 (ok_tl ho4)
  · rw [sIA_eq, zCpF_nat hs0 hd0 hn0, cs, cd, cn]
    show (if dp.toNat ≤ j ∧ j < dp.toNat + n.toNat then f (sp.toNat + (j - dp.toNat)) else g j) = _
    by_cases e9 : dp.toNat ≤ j ∧ j < dp.toNat + n.toNat
    · rw [if_pos e9, if_pos e9]
      exact (hfa _ (by omega)).1
    · rw [if_neg e9, if_neg e9]
      exact (hfb j hj).1
  · rw [cs, cd, cn]
    show fits .short (.int (if dp.toNat ≤ j ∧ j < dp.toNat + n.toNat then f (sp.toNat + (j - dp.toNat)) else g j)) = true
    by_cases e9 : dp.toNat ≤ j ∧ j < dp.toNat + n.toNat
    · rw [if_pos e9]
      exact (hfa _ (by omega)).2
    · rw [if_neg e9]
      exact (hfb j hj).2
theorem zS_cpyl (X : zCtx M p s m args meth c) (r : zRel D s A fz xs L H ρ ws tys h) (hS : va_S A s.heap H locs) (hRF : 16 ≤ R.frames) (hRL : 12000 ≤ R.locals) (hls : lr.size = mLoc M) {x a b : Nat} {sp dp n : Int} (hdg : decode (mCode M) pc = .ok (.invokestatic x, 3)) (hq : zNat (mCls M) x = some 2) (hw : zWt rest ≤ 8) (hok : zCpOk h a sp b dp n) (hci : zCpIn h a sp b dp n) (hk : (gK h a).1 = 4) (ho : ∀ v ∈ Sum.inl n :: Sum.inl dp :: Sum.inr (Sum.inr (some b)) :: Sum.inl sp :: Sum.inr (Sum.inr (some a)) :: rest, zOk (gN h) v)
    (kk : zKk p l e R s m args below meth c cells slots Q D A fz xs L ρ h (zCpy h a sp b dp n) rest (F0 m (pc + 3) lr)) : W p l e R s m args below meth c H locs cells slots Q (F0 m pc lr ((Sum.inl n :: Sum.inl dp :: Sum.inr (Sum.inr (some b)) :: Sum.inl sp :: Sum.inr (Sum.inr (some a)) :: rest).map (zv ρ))) := by
  obtain ⟨x1, x2, x3, x4, x5, x6, -⟩ := X
  obtain ⟨u, e1, e2⟩ := zLk2_mem hq
  obtain ⟨y, f1, f2⟩ := zYF _ e1 _ e2
  dsimp only at f1 f2
  cases f1
  obtain ⟨hza, hzb, hk1, hkk, hs0, hd0, hn0⟩ := hok
  obtain ⟨hc1, hc2⟩ := hci
  have wf := r.2.2.2.2.2.1
  have ho1 := ok_tl ho
  have ho2 := ok_tl ho1
  have ho3 := ok_tl ho2
  have ho4 := ok_tl ho3
  have hin : inI n := ok_hd ho
  have hid : inI dp := ok_hd ho1
  have his : inI sp := ok_hd ho3
  have hl9 : ((rest.map (zv ρ)).map fun v => v.category).sum + (nativeFrameWords "java/lang/System" "arraycopy" 5 + 11) ≤ R.locals := by
    rw [zWt_eq]
    have h9 : nativeFrameWords "java/lang/System" "arraycopy" 5 ≤ 1000 := by decide +kernel
    omega
  have cs := ofI_clamp his hs0
  have cd := ofI_clamp hid hd0
  have cn := ofI_clamp hin hn0
  obtain ⟨ea, hea, hca⟩ := zRel_at r hza (ok_hd ho4)
  obtain ⟨eb, heb, hcb⟩ := zRel_at r hzb (ok_hd ho2)
  have hka := zK_of hk
  have hkb : gK h b = (4, (gK h b).2) := zK_of (hkk.symm.trans hk)
  obtain ⟨cA, f, rfl, hta, hfa⟩ := hca.2.2.2.2.1 _ hka
  obtain ⟨cB, g, rfl, htb, hfb⟩ := hcb.2.2.2.2.1 _ hkb
  obtain ⟨ta, hta⟩ := mem_at hta
  obtain ⟨tb, htb2⟩ := mem_at htb
  have e0 : zCpy h a sp b dp n = sJA h b (zCpF (gJ h a) (gJ h b) sp dp n) := by
    unfold zCpy
    rw [if_neg (by rw [hk]; decide), if_pos hk]
  rw [e0] at kk
  refine va_copyl (ty := .long) x1 x2 (x3.trans hls.symm) x4 (x5 _ f2) (x5 _ q650) (x5 _ q649) (x5 _ q190) r.1 r.2.1 r.2.2.1 hS _ _ ta tb hea heb hta htb2 rfl ((ofI_neg his).mpr hs0) ((ofI_neg hid).mpr hd0) ((ofI_neg hin).mpr hn0) (by rw [cs, cn]; omega) (by rw [cd, cn]; omega) (fun _ _ => rfl) (by omega) hl9 hdg (fun H1 locs1 hP1 hD1 hS1 => ?_)
  refine zKk_same kk rfl rfl rfl (zRel_set r hzb (h' := sJA h b _) rfl rfl (fun _ _ => rfl) (fun b9 hb => sJA_ne hb) (fun _ _ => rfl) hP1 hD1 (zCe_k4 (n := (gK h b).2) hkb ⟨cB, _, rfl, htb, fun j hj => ?_⟩) (zWf_JA wf (zCpF_in (wf.2.2.1 a) (wf.2.2.1 b)))) hS1 (ok_tl ho4)
  · rw [sJA_eq, zCpF_nat hs0 hd0 hn0, cs, cd, cn]
    show (if dp.toNat ≤ j ∧ j < dp.toNat + n.toNat then f (sp.toNat + (j - dp.toNat)) else g j) = _
    by_cases e9 : dp.toNat ≤ j ∧ j < dp.toNat + n.toNat
    · rw [if_pos e9, if_pos e9]
      exact hfa _ (by omega)
    · rw [if_neg e9, if_neg e9]
      exact hfb j hj
theorem zS_cpyq (X : zCtx M p s m args meth c) (r : zRel D s A fz xs L H ρ ws tys h) (hS : va_S A s.heap H locs) (hRF : 16 ≤ R.frames) (hRL : 12000 ≤ R.locals) (hls : lr.size = mLoc M) {x a b : Nat} {sp dp n : Int} (hdg : decode (mCode M) pc = .ok (.invokestatic x, 3)) (hq : zNat (mCls M) x = some 2) (hw : zWt rest ≤ 8) (hok : zCpOk h a sp b dp n) (hci : zCpIn h a sp b dp n) (hk : 5 ≤ (gK h a).1) (ho : ∀ v ∈ Sum.inl n :: Sum.inl dp :: Sum.inr (Sum.inr (some b)) :: Sum.inl sp :: Sum.inr (Sum.inr (some a)) :: rest, zOk (gN h) v)
    (kk : zKk p l e R s m args below meth c cells slots Q D A fz xs L ρ h (zCpy h a sp b dp n) rest (F0 m (pc + 3) lr)) : W p l e R s m args below meth c H locs cells slots Q (F0 m pc lr ((Sum.inl n :: Sum.inl dp :: Sum.inr (Sum.inr (some b)) :: Sum.inl sp :: Sum.inr (Sum.inr (some a)) :: rest).map (zv ρ))) := by
  obtain ⟨x1, x2, x3, x4, x5, x6, -⟩ := X
  obtain ⟨u, e1, e2⟩ := zLk2_mem hq
  obtain ⟨y, f1, f2⟩ := zYF _ e1 _ e2
  dsimp only at f1 f2
  cases f1
  obtain ⟨hza, hzb, hk1, hkk, hs0, hd0, hn0⟩ := hok
  obtain ⟨hc1, hc2⟩ := hci
  have wf := r.2.2.2.2.2.1
  have ho1 := ok_tl ho
  have ho2 := ok_tl ho1
  have ho3 := ok_tl ho2
  have ho4 := ok_tl ho3
  have hin : inI n := ok_hd ho
  have hid : inI dp := ok_hd ho1
  have his : inI sp := ok_hd ho3
  have hl9 : ((rest.map (zv ρ)).map fun v => v.category).sum + (nativeFrameWords "java/lang/System" "arraycopy" 5 + 11) ≤ R.locals := by
    rw [zWt_eq]
    have h9 : nativeFrameWords "java/lang/System" "arraycopy" 5 ≤ 1000 := by decide +kernel
    omega
  have cs := ofI_clamp his hs0
  have cd := ofI_clamp hid hd0
  have cn := ofI_clamp hin hn0
  obtain ⟨ea, hea, hca⟩ := zRel_at r hza (ok_hd ho4)
  obtain ⟨eb, heb, hcb⟩ := zRel_at r hzb (ok_hd ho2)
  have hk5 : 5 ≤ (gK h b).1 := hkk ▸ hk
  obtain ⟨cA, na, f, hna, hea2, hta, hfa⟩ := hca.2.2.2.2.2 (gK h a).1 (gK h a).2 hk rfl
  cases hea2
  obtain ⟨cB, nb, g, hnb, heb2, htb, hfb⟩ := hcb.2.2.2.2.2 (gK h b).1 (gK h b).2 hk5 rfl
  cases heb2
  obtain ⟨ta, hta⟩ := mem_at hta
  obtain ⟨tb, htb2⟩ := mem_at htb
  have e0 : zCpy h a sp b dp n = sRA h b (zCpF (gR h a) (gR h b) sp dp n) := by
    unfold zCpy
    rw [if_neg (by omega), if_neg (by omega)]
  rw [e0] at kk
  have hel : ∀ i : Nat, i < (Int32.ofInt n).toNatClampNeg → ∀ y : Nat, f ((Int32.ofInt sp).toNatClampNeg + i) = some y → va_Any nb s H y := fun i hi9 y hy => by
    rw [cn] at hi9
    rw [cs, hfa _ (by omega)] at hy
    cases hg : gR h a ((sp.toNat + i : Nat) : Int) with
    | none => rw [hg] at hy; cases hy
    | some b9 =>
      rw [hg] at hy
      cases hy
      obtain ⟨w1, w2, w3⟩ := wf.2.2.2.2.1 a _ b9 hk hg
      obtain ⟨e9, he9, hc9⟩ := zRel_at r w1 (wf.2.2.2.1 a _ b9 hg)
      obtain ⟨r9, fs, g1, rfl, g3, g4⟩ := hc9.1 _ (zK_of w2)
      obtain ⟨g5, g6⟩ := zCls_at g1
      refine va_rAny r.1 r.2.1 he9 g5 (fun comp c0 hE hC => ?_)
      have hnb2 : zLk zAcl (gK h a).1 = some nb := by rw [hkk]; exact hnb
      rcases zAsg_nest w3 hnb2 with e5 | e5
      · rw [zCn_of g1] at e5
        rw [e5] at hE
        cases Option.some.inj (hE.symm.trans hC)
        exact va_asg _ _
      · rw [zCn_of g1] at e5
        obtain ⟨c3, c4, hc3, hc4, hasg⟩ := Cond.castable_spec (x6 _ e5)
        cases Option.some.inj (hc3.symm.trans hC)
        cases Option.some.inj (hc4.symm.trans hE)
        exact hasg
  refine va_copyM x1 x2 (x3.trans hls.symm) x4 (x5 _ f2) (x5 _ q650) (x5 _ q649) (x5 _ q190) r.1 r.2.1 r.2.2.1 hS _ _ ta tb hea heb hta htb2 ((ofI_neg his).mpr hs0) ((ofI_neg hid).mpr hd0) ((ofI_neg hin).mpr hn0) (by rw [cs, cn]; omega) (by rw [cd, cn]; omega) hel (by omega) hl9 hdg (fun H1 locs1 hP1 hD1 hS1 => ?_)
  refine zKk_same kk rfl rfl rfl (zRel_set r hzb (h' := sRA h b _) rfl rfl (fun _ _ => rfl) (fun _ _ => rfl) (fun b9 hb => sRA_ne hb) hP1 hD1 (zCe_k5 (n := (gK h b).2) hk5 (rfl : gK h b = _) ⟨cB, nb, _, hnb, rfl, htb, fun j hj => ?_⟩) (zWf_RA wf hzb (fun j y hy => ?_) (fun _ j y hy => ?_))) hS1 (ok_tl ho4)
  · rw [sRA_eq, zCpF_nat hs0 hd0 hn0, cs, cd, cn]
    show (if dp.toNat ≤ j ∧ j < dp.toNat + n.toNat then f (sp.toNat + (j - dp.toNat)) else g j) = _
    by_cases e9 : dp.toNat ≤ j ∧ j < dp.toNat + n.toNat
    · rw [if_pos e9, if_pos e9]
      exact hfa _ (by omega)
    · rw [if_neg e9, if_neg e9]
      exact hfb j hj
  · unfold zCpF at hy
    split at hy
    · exact wf.2.2.2.1 a _ y hy
    · exact wf.2.2.2.1 b _ y hy
  · unfold zCpF at hy
    split at hy
    · rw [← hkk]
      exact wf.2.2.2.2.1 a _ y hk hy
    · exact wf.2.2.2.2.1 b _ y (by rw [← hkk]; exact hk) hy
end ZO
