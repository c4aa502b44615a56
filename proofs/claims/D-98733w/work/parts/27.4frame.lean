/-! ===== SOUNDNESS, 13: methods, calls, and the whole ===== -/
set_option maxRecDepth 100000
theorem zcati {ρ : Nat → Nat} {x : Int} : ¬ (zv ρ (.inl x)).category = 2 := by rw [zv_cat]; simp [zC1]
theorem zcatr {ρ : Nat → Nat} {x : Option Nat} : ¬ (zv ρ (.inr (.inr x))).category = 2 := by rw [zv_cat]; simp [zC1]
theorem zcat2 {ρ : Nat → Nat} {x : Int} : (zv ρ (.inr (.inl x))).category = 2 := by rw [zv_cat]; simp [zC1]
theorem zEnt_sl {ρ : Nat → Nat} : ∀ as : List zAv, (lg_sl (as.map (zv ρ))).length = (zEnt as).length
  | [] => rfl
  | .inl x :: r => by
    have h9 := zEnt_sl (ρ := ρ) r
    unfold lg_sl at h9 ⊢
    rw [List.map_cons, List.flatMap_cons, List.length_append, h9, if_neg (by first | exact zcati | exact zcatr)]
    show 1 + _ = (zEnt r).length + 1
    omega
  | .inr (.inl x) :: r => by
    have h9 := zEnt_sl (ρ := ρ) r
    unfold lg_sl at h9 ⊢
    rw [List.map_cons, List.flatMap_cons, List.length_append, h9, if_pos zcat2]
    show 2 + _ = (zEnt r).length + 1 + 1
    omega
  | .inr (.inr x) :: r => by
    have h9 := zEnt_sl (ρ := ρ) r
    unfold lg_sl at h9 ⊢
    rw [List.map_cons, List.flatMap_cons, List.length_append, h9, if_neg (by first | exact zcati | exact zcatr)]
    show 1 + _ = (zEnt r).length + 1
    omega
theorem zEnt_get {ρ : Nat → Nat} : ∀ {as : List zAv} {k j : Nat} {v : zAv}, zGet (zEnt as) j = some v → (k + j, zv ρ v) ∈ lv_args k (as.map (zv ρ))
  | [], k, j, v, hg => by cases j <;> cases hg
  | .inl x :: r, k, 0, v, hg => by
    cases hg
    exact List.mem_cons_self
  | .inl x :: r, k, j + 1, v, hg => by
    have h9 := zEnt_get (ρ := ρ) (k := k + 1) (as := r) (j := j) hg
    have e9 : k + (j + 1) = k + 1 + j := by omega
    show (k + (j + 1), _) ∈ (k, _) :: lv_args (if (zv ρ (.inl x)).category = 2 then k + 2 else k + 1) _
    rw [if_neg (by first | exact zcati | exact zcatr), e9]
    exact List.mem_cons_of_mem _ h9
  | .inr (.inl x) :: r, k, 0, v, hg => by
    cases hg
    exact List.mem_cons_self
  | .inr (.inl x) :: r, k, 1, v, hg => by cases hg
  | .inr (.inl x) :: r, k, j + 2, v, hg => by
    have h9 := zEnt_get (ρ := ρ) (k := k + 2) (as := r) (j := j) hg
    have e9 : k + (j + 2) = k + 2 + j := by omega
    show (k + (j + 2), _) ∈ (k, _) :: lv_args (if (zv ρ (.inr (.inl x))).category = 2 then k + 2 else k + 1) _
    rw [if_pos zcat2, e9]
    exact List.mem_cons_of_mem _ h9
  | .inr (.inr x) :: r, k, 0, v, hg => by
    cases hg
    exact List.mem_cons_self
  | .inr (.inr x) :: r, k, j + 1, v, hg => by
    have h9 := zEnt_get (ρ := ρ) (k := k + 1) (as := r) (j := j) hg
    have e9 : k + (j + 1) = k + 1 + j := by omega
    show (k + (j + 1), _) ∈ (k, _) :: lv_args (if (zv ρ (.inr (.inr x))).category = 2 then k + 2 else k + 1) _
    rw [if_neg (by first | exact zcati | exact zcatr), e9]
    exact List.mem_cons_of_mem _ h9
theorem zEnt_mem : ∀ {as : List zAv} {j : Nat} {v : zAv}, zGet (zEnt as) j = some v → v ∈ as
  | [], j, v, hg => by cases j <;> cases hg
  | .inl x :: r, 0, v, hg => by cases hg; exact List.mem_cons_self
  | .inl x :: r, j + 1, v, hg => List.mem_cons_of_mem _ (zEnt_mem (as := r) (j := j) hg)
  | .inr (.inl x) :: r, 0, v, hg => by cases hg; exact List.mem_cons_self
  | .inr (.inl x) :: r, 1, v, hg => by cases hg
  | .inr (.inl x) :: r, j + 2, v, hg => List.mem_cons_of_mem _ (zEnt_mem (as := r) (j := j) hg)
  | .inr (.inr x) :: r, 0, v, hg => by cases hg; exact List.mem_cons_self
  | .inr (.inr x) :: r, j + 1, v, hg => List.mem_cons_of_mem _ (zEnt_mem (as := r) (j := j) hg)
theorem zPad_len : ∀ (n : Nat) (l : List (Option zAv)), (zPad n l).length = n
  | 0, _ => rfl
  | n + 1, [] => congrArg Nat.succ (zPad_len n [])
  | n + 1, _ :: r => congrArg Nat.succ (zPad_len n r)
theorem zPad_get : ∀ {n : Nat} {l : List (Option zAv)} {j : Nat} {v : zAv}, zGet (zPad n l) j = some v → zGet l j = some v
  | 0, _, j, v, hg => by cases j <;> cases hg
  | n + 1, [], 0, v, hg => by cases hg
  | n + 1, [], j + 1, v, hg => by
    have h9 := zPad_get (n := n) (l := []) (j := j) hg
    cases j <;> cases h9
  | n + 1, _ :: r, 0, v, hg => hg
  | n + 1, _ :: r, j + 1, v, hg => zPad_get (n := n) (l := r) (j := j) hg
theorem zTake_spec : ∀ {n : Nat} {st acc as r : List zAv}, zTake n st acc = some (as, r) → ∃ k : List zAv, as = k.reverse ++ acc ∧ st = k ++ r ∧ k.length = n
  | 0, st, acc, as, r, e => by
    cases e
    exact ⟨[], rfl, rfl, rfl⟩
  | n + 1, [], acc, as, r, e => by cases e
  | n + 1, v :: t, acc, as, r, e => by
    obtain ⟨k, h1, h2, h3⟩ := zTake_spec (n := n) (st := t) (acc := v :: acc) e
    exact ⟨v :: k, by rw [h1]; simp, by rw [h2]; rfl, by rw [List.length_cons, h3]⟩
section ZB
variable {p : Program} {l : Launch} {e : Env} {R : Room} {s : State} {m : MethodId} {args : Array Value} {below : List Frame} {meth : Method} {c : Code} {H : Heap} {locs : List Loc} {cells slots : Nat} {Q : State → Prop}
variable {D : va_G} {A : Nat → Prop} {fz : Nat → Nat} {xs : Nat → Int32} {L n : Nat} {ρ ρ0 : Nat → Nat} {n0 Kc Ks : Nat} {ws : va_W} {tys : List (ClassId × FieldType)} {h h' : zHp}
variable {M : zMi} {d pc : Nat} {ls : List (Option zAv)} {st st' rest as : List zAv} {lr : Array Slot} {len : Nat} {r : zRs}
theorem zBody (ih : zIH l D A fz xs L n) (hrun : zRun n M d 0 (zPad (mLoc M) (zEnt as)) [] h = some r) (hM : zMF M) (hla : (zEnt as).length ≤ mLoc M) (hoa : ∀ v ∈ as, zOk (gN h) v) {ws9 : List Cond} (hws : ∀ w ∈ lw_all, w ∈ ws9) {s₁ : State} (B : BodyLoose p l (mName M) (headSpec ws9 (zRm (zRank M d) (gC r.2 - gC h) (gS r.2 - gS h))) (mCode M) (mLoc M) (mRet M) e s m args below meth c s₁) (hml : c.maxLocals = mLoc M) (htab : mHnd M ≠ [] → c.exceptionTable.toList = tableOf (mHnd M)) (htab0 : mHnd M = [] → ∀ x ∈ c.exceptionTable.toList, False) (hv : va_Pc (as.map (zv ρ)) (zSt D A fz xs L ρ ws tys h) args s) :
    W p l e (headSpec ws9 (zRm (zRank M d) (gC r.2 - gC h) (gS r.2 - gS h))).room s m args below meth c s.heap [] 0 0 (zx_MQ below (zQc D A fz xs L ρ (gN h) r) (zXC D A fz xs L ρ (gN h) r) args s (gC r.2 - gC h) (gS r.2 - gS h) A) (entryFrame m args (mLoc M)) := by
  obtain ⟨rfl, x6, x7, hf, hA, hr⟩ := hv
  have hts := atoms_spec (ws := ws9) B.pre
  have hown : s.vm.findClass (zOwn (mCls M)) = some m.cls := by
    rw [← hM.2.2.2.1]
    exact findClass_of_methodNamed B.named
  have X : zCtx M p s m (as.map (zv ρ)).toArray meth c := ⟨B.exec, B.bytes, hml, hown, fun w hw => hts w (hws w hw), x6, x7, fun h9 => (name_of_methodNamed B.named B.method).1.trans (hM.2.2.1 h9), B.returns, B.notSynchronized, htab⟩
  have hMh : zMH M := hM.2.2.2.2.2.2.2
  have hge := zRun_mo n _ _ _ _ _ _ _ hrun
  obtain ⟨hg1, hg2, hg3⟩ := hge
  rw [lg_entry_eq]
  have hl := lv_entry (as.map (zv ρ)) (n := mLoc M) (by rw [zEnt_sl]; exact hla)
  generalize (lg_sl (as.map (zv ρ)) ++ List.replicate (mLoc M - (lg_sl (as.map (zv ρ))).length) Slot.unset).toArray = lr at hl ⊢
  have hLR : zLR ρ (gN h) (mLoc M) (zPad (mLoc M) (zEnt as)) lr := zLR_of (zPad_len _ _) hl (fun j v hg => by simpa using zEnt_get (ρ := ρ) (k := 0) (zPad_get hg)) (fun j v hg => hoa v (zEnt_mem (zPad_get hg)))
  refine ih _ _ _ _ _ _ _ hrun p e _ s m _ below meth c s.heap [] 0 0 _ ρ (gN h) (gC h) (gS h) ρ ws tys lr ⟨X, hMh, hf, hA, ⟨Nat.le_refl _, Nat.le_refl _⟩, ⟨?_, ?_⟩, ?_, ?_⟩ ⟨hr, va_S.rf, ⟨Nat.zero_add _, Nat.zero_add _⟩, fun _ _ => rfl, Nat.le_refl _⟩ hLR (fun v hv => by cases hv)
  · show gC r.2 ≤ gC r.2 - gC h + gC h
    omega
  · show gS r.2 ≤ gS r.2 - gS h + gS h
    omega
  · intro v h' H' locs' cells' slots' ρ' ws' tys' lr' pc' i st' er hd hz P ho
    obtain ⟨rel, hS, ⟨hc, hs⟩, hag, -⟩ := P
    have e1 : r.2 = h' := by rw [er]
    refine W.widen (k := gC r.2 - gC h) (n := gS r.2 - gS h) (by rw [e1]; omega) (by rw [e1]; omega) (zx_ret (zS_ret X hz hd ?_ hS.2.2))
    intro t ht hW
    refine ⟨⟨v, h', ρ', ws', tys', er, rfl, fun w hw => ho w ?_, ?_, hag⟩, ?_, ?_⟩
    · rw [zRet_st hz, hw]
      exact List.mem_cons_self
    · rw [ht]
      exact zRel_st hW.alike rel
    · rw [ht]
      exact hS.1
    · intro q h1 h2
      rw [ht]
      exact hS.2.1 q h1 h2
  · intro E a h' H' locs' cells' slots' ρ' ws' tys' lr' pc' rs q9 ce er hn hE P hab hcell hv hcl
    obtain ⟨rel, hS, ⟨hc, hs⟩, hag, -⟩ := P
    have e1 : r.2 = h' := by rw [er]
    refine zx_outP (own := zOwn (mCls M)) hown B.notSynchronized ?_ hcell hv hcl (fun t ht hal => ⟨⟨E, a, h', ρ', ws', tys', er, rfl, hE, hab, ?_, hag⟩, ?_, ?_⟩) hS.2.2 (by rw [e1]; omega) (by rw [e1]; omega)
    · intro z hz
      by_cases hh : mHnd M = []
      · exact absurd (htab0 hh z hz) id
      · rw [htab hh] at hz
        obtain ⟨q2, hq2, rfl⟩ := List.mem_map.mp hz
        exact zS_pass X hMh hE hq2 (zHand_none hn q2 hq2)
    · rw [ht]
      exact zRel_st hal rel
    · rw [ht]
      exact hS.1
    · intro q h1 h2
      rw [ht]
      exact hS.2.1 q h1 h2
theorem zMet_of (ih : zIH l D A fz xs L n) (hrun : zRun n M d 0 (zPad (mLoc M) (zEnt as)) [] h = some r) (hM : zMF M) (hla : (zEnt as).length ≤ mLoc M) (hoa : ∀ v ∈ as, zOk (gN h) v) :
    zx_Met l (mName M) (zWs M) (zRm (zRank M d) (gC r.2 - gC h) (gS r.2 - gS h)) (va_Pc (as.map (zv ρ)) (zSt D A fz xs L ρ ws tys h)) (zQc D A fz xs L ρ (gN h) r) (zXC D A fz xs L ρ (gN h) r) (gC r.2 - gC h) (gS r.2 - gS h) A := by
  by_cases hh : mHnd M = []
  · rw [zWs_0 hh]
    exact zx_ofW (cc := mCode M) (maxL := mLoc M) (ret := mRet M) hM.1 rfl (fun p e s m args below meth c s₁ B hml ht hv => zBody ih hrun hM hla hoa (fun w hw => List.mem_cons_of_mem _ hw) B hml (fun h9 => absurd hh h9) (fun _ => ht) hv)
  · rw [zWs_W hh]
    exact zx_ofWH (cc := mCode M) (maxL := mLoc M) (ret := mRet M) (hh := mHnd M) hM.1 rfl (fun p e s m args below meth c s₁ B hml hv => zBody ih hrun hM hla hoa (fun w hw => List.mem_cons_of_mem _ hw) B hml (fun _ => vx_table (x := mName M) B (atoms_spec (ws := wsW_ (mName M) (mCode M) (mLoc M) (mRet M) (mHnd M)) B.pre _ List.mem_cons_self)) (fun h9 => absurd h9 hh) hv)
/-- an object that a method is called on -/
theorem zRecv (r : zRel D s A fz xs L H ρ ws tys h) (hf : zFz fz xs L A s s.heap) (hS : va_S A s.heap H locs) {a ci : Nat} (hk : gK h a = (0, ci)) (ha : a < gN h) : ∃ cell : Cell, H[ρ a]? = some cell ∧ cell.vm.isStatics = false ∧ s.vm.findClass (zCn ci) = some cell.cls := by
  by_cases hz : a < zkc
  · obtain ⟨y1, y2, y3⟩ := r.2.2.2.2.2.1.2.2.2.2.2 a hz
    rw [y1] at hk
    obtain ⟨z1, z2⟩ := zK0_odd hk
    obtain ⟨i, hi⟩ : ∃ i, a = 2 * i + 1 := ⟨a / 2, by omega⟩
    have hi32 : i < 32 := by have : a < 65 := hz; omega
    obtain ⟨-, -, -, -, g1, -⟩ := hf
    obtain ⟨cell, c1, c2, c3, -⟩ := va_O.kept (g1 i hi32).1 hS.2.1
    have ra : ρ a = fz (2 * i + 1) := by rw [r.2.2.2.2.2.2 a hz, hi]
    subst z2
    exact ⟨cell, by rw [ra]; exact c1, c2, c3⟩
  · obtain ⟨e9, he, hc⟩ := zRel_at r (by omega) ha
    obtain ⟨r9, fs, f1, rfl, f3, f4⟩ := hc.1 _ hk
    obtain ⟨cell, c1, c2, c3⟩ := va_recv r.1 r.2.1 (zCls_at f1).1 he
    exact ⟨cell, c1, c2, by rw [zCn_of f1]; exact c3⟩
theorem zCall_st {n : Nat} {as st rest : List zAv} {ρ : Nat → Nat} (h9 : zTake n st [] = some (as, rest)) : st.map (zv ρ) = (as.map (zv ρ)).reverse ++ rest.map (zv ρ) ∧ as.length = n ∧ st = as.reverse ++ rest := by
  obtain ⟨k, h1, h2, h3⟩ := zTake_spec h9
  rw [List.append_nil] at h1
  subst h1
  rw [h2]
  refine ⟨by rw [List.map_append, List.map_reverse, List.reverse_reverse], by rw [List.length_reverse, h3], by rw [List.reverse_reverse]⟩
theorem zWt_ok {st : List zAv} {ρ : Nat → Nat} (h9 : zWt st ≤ 8) : ((st.map (zv ρ)).map fun v => v.category).sum ≤ 8 := by
  rw [zWt_eq]
  exact h9
set_option maxHeartbeats 1000000 in
theorem zS_call (ih : zIH l D A fz xs L n) (X : zCtx M p s m args meth c) (rel : zRel D s A fz xs L H ρ ws tys h) (hf : zFz fz xs L A s s.heap) (hS : va_S A s.heap H locs) (hA : ∀ q, s.heap.size ≤ q → A q) (hR : 16 + zRank M d ≤ R.frames ∧ 12000 + 60 * zRank M d ≤ R.locals) (hls : lr.size = mLoc M) {i : Instr} (hdg : decode (mCode M) pc = .ok (i, 3)) {N : zMi} {d' : Nat} (hc : zCallee (mCls M) d i st h = some (N, d', as, rest)) (hrk : zRank N d' < zRank M d) (hw : zWt rest ≤ 8) (hla : (zEnt as).length ≤ mLoc N) {q : zRs} (hrun : zRun n N d' 0 (zPad (mLoc N) (zEnt as)) [] h = some q) (hcq : cells + gC q.2 ≤ R.cells + gC h) (hsq : slots + gS q.2 ≤ R.slots + gS h) (ho : ∀ v ∈ st, zOk (gN h) v) :
    zx_Run p l e R s m args below meth c H locs cells slots (gC q.2 - gC h) (gS q.2 - gS h) (F0 m pc lr (st.map (zv ρ))) (rest.map (zv ρ)) (zQc D A fz xs L ρ (gN h) q (as.map (zv ρ)).toArray) (zXC D A fz xs L ρ (gN h) q) A ∧ ∀ v ∈ rest, zOk (gN h) v := by
  have hge := zRun_mo n _ _ _ _ _ _ _ hrun
  obtain ⟨hg1, hg2, hg3⟩ := hge
  have hfit : cells + (gC q.2 - gC h) ≤ R.cells ∧ slots + (gS q.2 - gS h) ≤ R.slots := ⟨by omega, by omega⟩
  have S : CallFix p m c (mCode M) (mLoc M) s args lw_all (zOwn (mCls M)) := ⟨X.1, X.2.1, X.2.2.1, X.2.2.2.1, X.2.2.2.2.1⟩
  have hts := X.2.2.2.2.1
  have hnw := X.2.2.2.2.2.1
  have pay : ∀ {ws9 : List Cond}, GoodIn lw_all ws9 → ∀ w ∈ ws9, ∀ (a' : Array Value) (U : State), s.WarmedH U.vm → w.before a' U = true := fun hG => pay_in hts hG
  have hPre : ∀ (bs : List Value), as.map (zv ρ) = bs → ∀ U : State, U.heap = H → s.WarmedH U.vm → va_Pc (as.map (zv ρ)) (zSt D A fz xs L ρ ws tys h) bs.toArray U := fun bs hb U hU hW => ⟨by rw [hb], zSt_go hW hU hnw X.2.2.2.2.2.2.1 hf hS hA rel⟩
  have hlo : ∀ {N9 : zMi}, N9 = N → mLoc N9 ≤ 40 → (zRm (zRank N d') (gC q.2 - gC h) (gS q.2 - gS h)).frames + 1 ≤ R.frames ∧ 8 + (mLoc N9 + 11) + (zRm (zRank N d') (gC q.2 - gC h) (gS q.2 - gS h)).locals ≤ R.locals := fun e9 h9 => by
    show 16 + zRank N d' + 1 ≤ R.frames ∧ 8 + (_ + 11) + (12000 + 60 * zRank N d') ≤ R.locals
    omega
  unfold zCallee at hc
  split at hc
  · rename_i x
    split at hc
    · rename_i q9 hq9
      split at hc
      · rename_i u hu
        cases hc
        obtain ⟨y1, y2, y3⟩ := zCall_st (ρ := ρ) (as := u.1) (rest := u.2) hu
        have hoa : ∀ v ∈ u.1, zOk (gN h) v := fun v hv => ho v (by rw [y3]; exact List.mem_append_left _ (List.mem_reverse.mpr hv))
        refine ⟨?_, fun v hv => ho v (by rw [y3]; exact List.mem_append_right _ hv)⟩
        obtain ⟨u9, h1, h2⟩ := zLk2_mem hq9
        obtain ⟨hlk, hst, hh, har, hN⟩ := zSFa (mCls M, u9) h1 (x, q9) h2
        have hMet := zMet_of (ρ := ρ) (ws := ws) (tys := tys) ih hrun hN hla hoa
        obtain ⟨n1, n2, n3, n4, n5, n6, n7, n8⟩ := hN
        have hcode : Cond.code (mName q9.2) (mCode q9.2) (mLoc q9.2) (mRet q9.2) ∈ lw_all := by
          rcases n2 with ⟨-, h9⟩ | ⟨h9, -⟩
          · exact h9
          · exact absurd hh h9
        rw [zWs_0 hh] at hMet
        have hG := lw_meth hcode
        have ar : ∀ sig, parseMethodDescriptor (mName q9.2).desc = some sig → q9.1 = sig.parameters.length := fun sig hs => by
          rw [hs] at har
          exact (Option.some.inj har).symm
        obtain ⟨hl1, hl2⟩ := hlo rfl n7
        have hpre : PreS s H (va_Pc (u.1.map (zv ρ)) (zSt D A fz xs L ρ ws tys h)) (u.1.map (zv ρ)) := ⟨zSt_blind, hPre _ rfl⟩
        rcases hlk with hlk | hlk
        · exact zx_runS S hMet ⟨⟨rfl, rfl, hl1, hl2, pay hG, List.mem_cons_self, hts _ hcode, hts _ n5, n6, ar, hts _ hlk⟩, hts _ hst⟩ hpre rfl (by rw [List.length_map]; exact y2) hls y1 (lv_room (zWt_ok hw)) hdg hfit
        · exact zx_runSN S hMet ⟨⟨⟨rfl, rfl, hl1, hl2, pay hG, List.mem_cons_self⟩, hts _ hcode, hts _ n5, n6, ar, va_Nw.use rfl (hnw _ hlk)⟩, hts _ hst, trivial⟩ hpre rfl (by rw [List.length_map]; exact y2) hls y1 (lv_room (zWt_ok hw)) hdg hfit
      · cases hc
    · cases hc
  · rename_i x
    split at hc
    · rename_i q9 hq9
      split at hc
      · rename_i as0 a r0 hu
        split at hc
        · rename_i hka
          cases hc
          obtain ⟨y1, y2, y3⟩ := zCall_st (ρ := ρ) hu
          have hoa : ∀ v ∈ Sum.inr (Sum.inr (some a)) :: as0, zOk (gN h) v := fun v hv => by
            rcases List.mem_cons.mp hv with h9 | h9
            · subst h9
              exact ho _ (by rw [y3]; exact List.mem_append_right _ List.mem_cons_self)
            · exact ho v (by rw [y3]; exact List.mem_append_left _ (List.mem_reverse.mpr h9))
          refine ⟨?_, fun v hv => ho v (by rw [y3]; exact List.mem_append_right _ (List.mem_cons_of_mem _ hv))⟩
          obtain ⟨u9, h1, h2⟩ := zLk2_mem hq9
          obtain ⟨hlk, hin, hh, hrt, hnm, har, hN⟩ := zIFa (mCls M, u9) h1 (x, q9) h2
          have hMet := zMet_of (ρ := ρ) (ws := ws) (tys := tys) ih hrun hN hla hoa
          obtain ⟨n1, n2, n3, n4, n5, n6, n7, n8⟩ := hN
          have hcode : Cond.code (mName q9.2) (mCode q9.2) (mLoc q9.2) (mRet q9.2) ∈ lw_all := by
            rcases n2 with ⟨-, h9⟩ | ⟨h9, -⟩
            · exact h9
            · exact absurd hh h9
          rw [zWs_0 hh, hrt] at hMet
          rw [hrt] at hcode
          have hG := lw_meth hcode
          have ar : ∀ sig, parseMethodDescriptor (mName q9.2).desc = some sig → q9.1 = sig.parameters.length := fun sig hs => by
            rw [hs] at har
            exact (Option.some.inj har).symm
          obtain ⟨hl1, hl2⟩ := hlo rfl n7
          have hpre : PreS s H (va_Pc ((Sum.inr (Sum.inr (some a)) :: as0).map (zv ρ)) (zSt D A fz xs L ρ ws tys h)) (.ref (ρ a) :: as0.map (zv ρ)) := ⟨zSt_blind, hPre _ rfl⟩
          rcases hlk with hlk | hlk
          · exact zx_runI S hMet ⟨⟨rfl, rfl, hl1, hl2, pay hG, List.mem_cons_self, hts _ hcode, hts _ n5, n6, ar, hts _ hlk⟩, hnm, hts _ hin⟩ hpre rfl (by rw [List.length_map]; exact y2) hls y1 (lv_room (zWt_ok hw)) hdg hfit
          · exact zx_runIN S hMet ⟨⟨⟨rfl, rfl, hl1, hl2, pay hG, List.mem_cons_self⟩, hts _ hcode, hts _ n5, n6, ar, va_Nw.use rfl (hnw _ hlk)⟩, hnm, hts _ hin⟩ hpre rfl (by rw [List.length_map]; exact y2) hls y1 (lv_room (zWt_ok hw)) hdg hfit
        · cases hc
      · cases hc
    · cases hc
  · rename_i x
    split at hc
    · rename_i n9 hn9
      split at hc
      · rename_i as0 a r0 hu
        split at hc
        · rename_i hka
          split at hc
          · rename_i q9 hq9
            split at hc
            · rename_i hqd
              cases hc
              obtain ⟨y1, y2, y3⟩ := zCall_st (ρ := ρ) hu
              have hoa : ∀ v ∈ Sum.inr (Sum.inr (some a)) :: as0, zOk (gN h) v := fun v hv => by
                rcases List.mem_cons.mp hv with h9 | h9
                · subst h9
                  exact ho _ (by rw [y3]; exact List.mem_append_right _ List.mem_cons_self)
                · exact ho v (by rw [y3]; exact List.mem_append_left _ (List.mem_reverse.mpr h9))
              refine ⟨?_, fun v hv => ho v (by rw [y3]; exact List.mem_append_right _ (List.mem_cons_of_mem _ hv))⟩
              obtain ⟨u9, v9, h1, h2, h3⟩ := zLk3_mem hq9
              obtain ⟨hkd, har, hN⟩ := zVFa (mCls M, u9) h1 (x, v9) h2 ((gK h a).2, q9) h3
              have hMet := zMet_of (ρ := ρ) (ws := ws) (tys := tys) ih hrun hN hla hoa
              obtain ⟨n1, n2, n3, n4, n5, n6, n7, n8⟩ := hN
              have ar : ∀ sig, parseMethodDescriptor (mName q9.1).desc = some sig → n9 = sig.parameters.length := fun sig hs => by
                rw [hs, hn9] at har
                exact (Option.some.inj har).symm
              obtain ⟨hl1, hl2⟩ := hlo rfl n7
              have hrc := zRecv rel hf hS (zK_of hka) (hoa _ List.mem_cons_self)
              have hpre : PreV s H (zCn (gK h a).2) (ρ a) (va_Pc ((Sum.inr (Sum.inr (some a)) :: as0).map (zv ρ)) (zSt D A fz xs L ρ ws tys h)) (as0.map (zv ρ)) := ⟨zSt_blind, hrc, hPre _ rfl⟩
              rcases hkd with ⟨k1, k2, k3, k4, k5⟩ | ⟨owner, y, hh, hyn, hyd, k1, k2, k3, k4, k5, k6⟩
              · by_cases hh : mHnd q9.1 = []
                · have hcode : Cond.code (mName q9.1) (mCode q9.1) (mLoc q9.1) (mRet q9.1) ∈ lw_all := by
                    rcases n2 with ⟨-, h9⟩ | ⟨h9, -⟩
                    · exact h9
                    · exact absurd hh h9
                  rw [zWs_0 hh] at hMet
                  have hG := lw_meth hcode
                  exact zx_runV S hMet ⟨⟨rfl, rfl, hl1, hl2, pay hG, List.mem_cons_self, hts _ hcode, hts _ n5, n6, ar, hts _ k1⟩, hts _ k2, hts _ k3⟩ hpre rfl (by rw [List.length_map]; exact y2) hls y1 (lv_room (zWt_ok hw)) hdg hfit
                · have hcode : Cond.codeWith (mName q9.1) (mCode q9.1) (mLoc q9.1) (mRet q9.1) (mHnd q9.1) ∈ lw_all := by
                    rcases n2 with ⟨h9, -⟩ | ⟨-, h9⟩
                    · exact absurd h9 hh
                    · exact h9
                  rw [zWs_W hh] at hMet
                  have hG := lw_methW hcode
                  exact zx_runVX S hMet ⟨⟨rfl, rfl, hl1, hl2, pay hG, List.mem_cons_self⟩, hts _ hcode, hts _ n5, n6, ar, hts _ k1, hts _ k2, hts _ k3⟩ hpre rfl (by rw [List.length_map]; exact y2) hls y1 (lv_room (zWt_ok hw)) hdg hfit
              · have hcode : Cond.code (mName q9.1) (mCode q9.1) (mLoc q9.1) (mRet q9.1) ∈ lw_all := by
                  rcases n2 with ⟨-, h9⟩ | ⟨h9, -⟩
                  · exact h9
                  · exact absurd hh h9
                rw [zWs_0 hh] at hMet
                have hG := lw_meth hcode
                have hdec : va_Decl s ⟨owner, y.name, y.desc⟩ := by
                  rcases k6 with k6 | k6
                  · have e9 : (⟨owner, y.name, y.desc⟩ : MethodName) = mName q9.1 := by rw [← k6, hyn, hyd]
                    rw [e9]
                    exact va_Decl.of (hts _ k4) (hts _ hcode)
                  · exact va_Decl.abs (hnw _ k6)
                have ar2 : ∀ sig, parseMethodDescriptor y.desc = some sig → n9 = sig.parameters.length := fun sig hs => ar sig (by rw [← hyd]; exact hs)
                exact zx_runU S hMet ⟨⟨rfl, rfl, hl1, hl2, pay hG, List.mem_cons_self⟩, hts _ hcode, hts _ n5, k5, ar2, hts _ k1, hts _ k2, hdec, hts _ k3, hts _ k4⟩ hpre rfl (by rw [List.length_map]; exact y2) hls y1 (lv_room (zWt_ok hw)) hdg hfit
            · cases hc
          · cases hc
        · cases hc
      · cases hc
    · cases hc
  · cases hc
/-- behind a call -/
theorem zS_after {mc ms : Nat} {st0 : List Value} {q : zRs} {av : Array Value} (hr : zx_Run p l e R s m args below meth c H locs cells slots mc ms (F0 m pc lr st0) (rest.map (zv ρ)) (zQc D A fz xs L ρ (gN h) q av) (zXC D A fz xs L ρ (gN h) q) A) (hS : va_S A s.heap H locs) (hor : ∀ v ∈ rest, zOk (gN h) v)
    (kr : ∀ (v : Option zAv) (h' : zHp) (H' : Heap) (locs' : List Loc) (ρ' : Nat → Nat) (ws' : va_W) (tys' : List (ClassId × FieldType)), q = (Sum.inl v, h') → zRel D s A fz xs L H' ρ' ws' tys' h' → va_S A s.heap H' locs' → (∀ a, a < gN h → ρ' a = ρ a) → (∀ w, v = some w → zOk (gN h') w) → W p l e R s m args below meth c H' locs' (cells + mc) (slots + ms) Q (F0 m (pc + 3) lr ((v.toList ++ rest).map (zv ρ'))))
    (kx : ∀ (E : Nat) (a : Option Nat) (h' : zHp) (H' : Heap) (locs' : List Loc) (ρ' : Nat → Nat) (ws' : va_W) (tys' : List (ClassId × FieldType)) (q9 : Addr) (ce : Cell), q = (Sum.inr (E, a), h') → E ∈ [2, 3, 30, 31] → zRel D s A fz xs L H' ρ' ws' tys' h' → va_S A s.heap H' locs' → (∀ a, a < gN h → ρ' a = ρ a) → (∀ b, a = some b → q9 = ρ' b ∧ b < gN h') → H'[q9]? = some ce → ce.vm = .none → s.vm.findClass (zEx E) = some ce.cls → vx_W p l e R s m args below meth c H' locs' (cells + mc) (slots + ms) Q (F0 m pc lr (rest.map (zv ρ))) q9) :
    W p l e R s m args below meth c H locs cells slots Q (F0 m pc lr st0) := by
  intro T hT X
  rcases hr T hT X with ⟨v, st₀, t, T', L9, h0, X', hL, e1, e2, ⟨⟨v9, h', ρ', ws', tys', er, eo, ho9, hrel, hag⟩, hF⟩, st⟩ | ⟨q9, st₀, t, T', L9, E, ce, h0, X', hL, e1, e2, ⟨⟨En, a, h', ρ', ws', tys', er, eE, hE, hab, hrel, hag⟩, hF⟩, hce, hcv, hcl, st⟩
  · obtain ⟨k1, k2, k3⟩ := vx_keep h0 e1 hS (fun _ _ h9 => h9) (fun _ h9 => h9) hL hF
    have hal : s.vm.Alike t.vm := by rw [← e2]; exact X'.warmed.alike
    have hv9 : v = v9.map (zv ρ') := by cases eo; rfl
    subst hv9
    have hrel2 : zRel D s A fz xs L T'.heap ρ' ws' tys' h' := by
      rw [e1]
      exact zRel_st hal.symm hrel
    obtain ⟨t2, a1, b1⟩ := kr v9 h' T'.heap (locs ++ L9) ρ' ws' tys' er hrel2 k3 hag ho9 T' rfl X'
    refine ⟨t2, st t2 ?_, b1⟩
    have es : (v9.toList ++ rest).map (zv ρ') = (v9.map (zv ρ')).toList ++ rest.map (zv ρ) := by
      rw [List.map_append, zv_eqs hag hor]
      cases v9 <;> rfl
    rw [es] at a1
    exact a1
  · obtain ⟨k1, k2, k3⟩ := vx_keep h0 e1 hS (fun _ _ h9 => h9) (fun _ h9 => h9) hL hF
    have hal : s.vm.Alike t.vm := by rw [← e2]; exact X'.warmed.alike
    have hrel2 : zRel D s A fz xs L T'.heap ρ' ws' tys' h' := by
      rw [e1]
      exact zRel_st hal.symm hrel
    obtain ⟨t2, a1, b1⟩ := kx En a h' T'.heap (locs ++ L9) ρ' ws' tys' q9 ce er hE hrel2 k3 hag hab (by rw [e1]; exact hce) hcv (by rw [← eE]; exact hcl) T' rfl X'
    exact ⟨t2, st.trans a1, b1⟩
theorem zExc_in {c : Nat} (h : zExc c = true) : c ∈ [2, 3, 30, 31] := by
  unfold zExc at h
  rw [Bool.or_eq_true] at h
  rcases h with h | h
  · rw [Nat.eq_of_beq_eq_true h]
    decide
  · rw [Nat.eq_of_beq_eq_true h]
    decide
theorem zEx_cn {c : Nat} (h : zExc c = true) : zCn c = zEx c := by
  unfold zExc at h
  rw [Bool.or_eq_true] at h
  rcases h with h | h
  · rw [Nat.eq_of_beq_eq_true h]
    rfl
  · rw [Nat.eq_of_beq_eq_true h]
    rfl
theorem zVm_E {C : Nat} {i : Instr} {st : List zAv} {h : zHp} {E : Nat} (hv : zVm C i st h = some E) : E = 31 ∨ E = 30 := by
  unfold zVm at hv
  split at hv <;> (repeat' (split at hv)) <;> first | (cases hv; exact Or.inl rfl) | (cases hv; exact Or.inr rfl) | cases hv
theorem zFam_5 {C : Nat} {i : Instr} (h : zFam C i = 5) : i = .athrow := by
  cases i <;> first | rfl | (exfalso; unfold zFam at h; dsimp only at h; first | exact absurd h (by decide) | (split at h <;> exact absurd h (by decide)))
/-- the whole -/
theorem zFrame (hst : l.stackTraces = false) : ∀ n, zIH l D A fz xs L n
  | 0 => fun M d pc ls st h r he => by cases he
  | n + 1 => by
    intro M d pc ls st h r he p e R s m args below meth c H locs cells slots Q ρ0 n0 Kc Ks ρ ws tys lr G P hl ho
    have ih := zFrame hst n
    have G0 := G
    have P0 := P
    obtain ⟨X, hMh, hf, hA, hR, hB, kr, kx⟩ := G
    obtain ⟨rel, hS, ⟨hc, hs⟩, hag, hn0⟩ := P
    have hge := zRun_mo (n + 1) _ _ _ _ _ _ _ he
    obtain ⟨hg1, hg2, hg3⟩ := hge
    have hls : lr.size = mLoc M := hl.2.1.1
    have hRF : 16 ≤ R.frames := by omega
    have hRL : 12000 ≤ R.locals := by omega
    unfold zRun at he
    cases hd : decode (mCode M) pc with
    | error x => rw [hd] at he; cases he
    | ok q =>
      obtain ⟨i, len⟩ := q
      rw [hd] at he
      replace he : (if zLenOk i len = true then zStep (zRun n) M d pc ls st h i len else none) = some r := he
      split at he
      · rename_i hlen
        unfold zStep at he
        split at he
        · split at he
          · rename_i q hq
            obtain ⟨ls', st'⟩ := q
            exact zS_ls X.1 X.2.1 hd hlen hq hl ho (fun lr' hl' ho' => ih _ _ _ _ _ _ _ he _ _ _ _ _ _ _ _ _ _ _ _ _ _ ρ0 n0 Kc Ks ρ ws tys lr' G0 P0 hl' ho')
          · cases he
        · split at he
          · rename_i q hq
            obtain ⟨pc', st'⟩ := q
            exact zS_br X.1 X.2.1 hd hlen hq ho (fun ho' => ih _ _ _ _ _ _ _ he _ _ _ _ _ _ _ _ _ _ _ _ _ _ ρ0 n0 Kc Ks ρ ws tys lr G0 P0 hl ho')
          · cases he
        · split at he
          · rename_i q hq
            obtain ⟨st', h'⟩ := q
            obtain ⟨b1, b2, b3⟩ := zRun_mo n _ _ _ _ _ _ _ he
            change gN h' ≤ gN r.2 at b1
            change gC h' ≤ gC r.2 at b2
            change gS h' ≤ gS r.2 at b3
            refine zS_heap X rel hf hS hA hRF hRL hls hd hlen hq (by omega) (by omega) ho ?_
            intro H' locs' ρ' ws' tys' c' s' hρ hn' rel' hS' ho' hc' hs'
            have P2 : zPt D s A fz xs L ρ0 n0 Kc Ks H' locs' c' s' ρ' ws' tys' h' := ⟨rel', hS', ⟨by omega, by omega⟩, fun a ha => (hρ a (by omega)).trans (hag a ha), by omega⟩
            exact ih _ _ _ _ _ _ _ he _ _ _ _ _ _ _ _ _ _ _ _ _ _ ρ0 n0 Kc Ks ρ' ws' tys' lr G0 P2 (zLR_moved hn' hρ hl) ho'
          · split at he
            · rename_i E hE
              obtain ⟨b1, b2, b3⟩ := zThrow_mo (zRun_mo n) he
              change gC h + 3 ≤ gC r.2 at b2
              change gS h + 400 ≤ gS r.2 at b3
              refine zS_vmall X rel hf hS hst hRF hRL (by omega) (by omega) hls hd hlen hE ho ?_
              intro H1 q9 ce rs rel1 hS1 hcell hv hcl
              exact zS_thr ih G0 ⟨rel1, hS1, ⟨by show cells + 3 + Kc = gC h + 3; omega, by show slots + 400 + Ks = gS h + 400; omega⟩, hag, hn0⟩ hl he (by rcases zVm_E hE with h9 | h9 <;> (rw [h9]; decide)) (fun b hb => by cases hb) hcell hv hcl
            · cases he
        · split at he
          · rename_i q hq
            obtain ⟨N, d', as, rest⟩ := q
            split at he
            · rename_i hcnd
              obtain ⟨hrk, hw, hla⟩ := hcnd
              split at he
              · rename_i q9 e9
                have b0 := zAfter_mo (zRun_mo n) he
                obtain ⟨b1, b2, b3⟩ := b0
                obtain ⟨b4, b5, b6⟩ := zRun_mo n _ _ _ _ _ _ _ e9
                have hlen3 : len = 3 := by
                  unfold zCallee at hq
                  split at hq
                  · exact Nat.eq_of_beq_eq_true hlen
                  · exact Nat.eq_of_beq_eq_true hlen
                  · exact Nat.eq_of_beq_eq_true hlen
                  · cases hq
                subst hlen3
                obtain ⟨hrun, hor⟩ := zS_call (R := R) (cells := cells) (slots := slots) (e := e) (below := below) ih X rel hf hS hA hR hls hd hq hrk hw hla e9 (by omega) (by omega) ho
                refine zS_after hrun hS hor ?_ ?_
                · intro v h' H' locs' ρ' ws' tys' er rel' hS' hag' hov
                  subst er
                  change gC h ≤ gC h' at b5
                  change gS h ≤ gS h' at b6
                  change gN h ≤ gN h' at b4
                  have P2 : zPt D s A fz xs L ρ0 n0 Kc Ks H' locs' (cells + (gC h' - gC h)) (slots + (gS h' - gS h)) ρ' ws' tys' h' := ⟨rel', hS', ⟨by omega, by omega⟩, fun a ha => (hag' a (by omega)).trans (hag a ha), by omega⟩
                  have hl2 := zLR_moved b4 hag' hl
                  have hor2 : ∀ v ∈ rest, zOk (gN h') v := fun w hw9 => zOk_mono b4 (hor w hw9)
                  cases v with
                  | none => exact ih _ _ _ _ _ _ _ he _ _ _ _ _ _ _ _ _ _ _ _ _ _ ρ0 n0 Kc Ks ρ' ws' tys' lr G0 P2 hl2 hor2
                  | some w => exact ih _ _ _ _ _ _ _ he _ _ _ _ _ _ _ _ _ _ _ _ _ _ ρ0 n0 Kc Ks ρ' ws' tys' lr G0 P2 hl2 (ok_cons (hov w rfl) hor2)
                · intro E a h' H' locs' ρ' ws' tys' q8 ce er hE rel' hS' hag' hab hcell hv hcl
                  subst er
                  change gC h ≤ gC h' at b5
                  change gS h ≤ gS h' at b6
                  change gN h ≤ gN h' at b4
                  have P2 : zPt D s A fz xs L ρ0 n0 Kc Ks H' locs' (cells + (gC h' - gC h)) (slots + (gS h' - gS h)) ρ' ws' tys' h' := ⟨rel', hS', ⟨by omega, by omega⟩, fun a ha => (hag' a (by omega)).trans (hag a ha), by omega⟩
                  exact zS_thr ih G0 P2 (zLR_moved b4 hag' hl) he hE hab hcell hv hcl
              · cases he
            · cases he
          · cases he
        · split at he
          · rename_i v hv
            have e1 : len = 1 := by
              unfold zRet at hv
              split at hv
              · exact Nat.eq_of_beq_eq_true hlen
              · exact Nat.eq_of_beq_eq_true hlen
              · exact Nat.eq_of_beq_eq_true hlen
              · exact Nat.eq_of_beq_eq_true hlen
              · cases hv
            subst e1
            exact kr v h H locs cells slots ρ ws tys lr pc i st (Option.some.inj he).symm hd hv P0 ho
          · cases he
        · rename_i hfam
          split at he
          · rename_i a r0
            split at he
            · rename_i hx
              obtain ⟨hx1, hx2, hx3⟩ := hx
              have hi : i = .athrow := zFam_5 hfam
              subst hi
              have e1 : len = 1 := Nat.eq_of_beq_eq_true hlen
              subst e1
              have ha : a < gN h := ho _ List.mem_cons_self
              obtain ⟨e9, he9, hc9⟩ := zRel_at rel hx1 ha
              obtain ⟨r9, fs, f1, rfl, f3, f4⟩ := hc9.1 _ (zK_of hx2)
              have hat := rel.2.1 _ _ he9
              obtain ⟨rr, g1, cell, g2, g3, g4, g5⟩ := hat
              obtain ⟨cell2, c1, c2, c3⟩ := zRecv rel hf hS (zK_of hx2) ha
              have ecell : cell2 = cell := Option.some.inj (c1.symm.trans g2)
              subst ecell
              refine vx_athrow X.1 X.2.1 hd ?_
              exact zS_thr ih G0 P0 hl he (zExc_in hx3) (fun b hb => by cases hb; exact ⟨rfl, ha⟩) c1 g4 (by rw [← zEx_cn hx3]; exact c3)
            · cases he
          · cases he
        · cases he
      · cases he
end ZB
