/-! ===== SOUNDNESS, 9c: String.checkIndex, Exception's constructor of four, arraycopy's throw ===== -/
set_option maxRecDepth 100000
/-! String.checkIndex within bounds -/
theorem zCki1 (l : Launch) (i n : Int32) (f : Value) (hf : f = .null ∨ ∃ t : Nat, f = .ref t) (h0 : ¬ i < 0) (h1 : i < n) : Met l yJ8_checkIndex (ws_ yJ8_checkIndex cJ8_checkIndex 3 (some .int)) ({ frames := 1, cells := 0, slots := 0, locals := 14 }) (va_Pc [.int i, .int n, f] (fun _ => True)) (va_Qi (fun (_ : Int32) (_ : Unit) => True) (fun _ _ => True) (fun _ => False)) 0 0 (fun _ => False) := by
  refine Met.ofW (cc := cJ8_checkIndex) (maxL := 3) (ret := some .int) (by decide) rfl ?_
  intro p e s m args below meth c s₁ B hml hv
  obtain ⟨rfl, -⟩ := hv
  have hx := B.exec
  have hb := B.bytes
  have hr := B.returns
  have hlocks := B.notSynchronized
  have hS : va_S (fun _ => False) s.heap s.heap [] := va_S.rf
  have hl := lv_entry ([.int i, .int n, f]) (n := 3) (by rcases hf with rfl | ⟨t, rfl⟩ <;> exact Nat.le_of_ble_eq_true rfl)
  rw [lg_entry_eq]
  generalize (lg_sl ([.int i, .int n, f]) ++ List.replicate (3 - (lg_sl ([.int i, .int n, f])).length) Slot.unset).toArray = ls at hl ⊢
  have hl : lv_has ls 3 [(0, .int i), (1, .int n), (2, f)] := hl
  refine lv_iload_n hx hb dJ8_checkIndex_0 rfl (lv_at hl 0 rfl) ?_
  refine lv_if_lt hx hb dJ8_checkIndex_1 (tgt := 9) rfl (fun h => absurd h h0) (fun _ => ?_)
  refine lv_iload_n hx hb dJ8_checkIndex_4 rfl (lv_at hl 0 rfl) ?_
  refine lv_iload_n hx hb dJ8_checkIndex_5 rfl (lv_at hl 1 rfl) ?_
  refine lv_icmp_lt hx hb dJ8_checkIndex_6 (tgt := 16) rfl (fun _ => ?_) (fun h => absurd h1 h)
  refine lv_iload_n hx hb dJ8_checkIndex_16 rfl (lv_at hl 0 rfl) ?_
  exact W.iret (v := i) hx hb hr (fun t ht hW => ⟨⟨i, (), rfl, trivial, trivial⟩, hS.F ht⟩) hS.2.2 dJ8_checkIndex_17
abbrev zSioN : String := "SIOOBE_FORMATTER"
abbrev zSioD : String := "Ljava/util/function/BiFunction;"
abbrev zPreC : String := "jdk/internal/util/Preconditions"
theorem zCki2 (l : Launch) (i n : Int32) (f : Value) (hf : f = .null ∨ ∃ t : Nat, f = .ref t) (h0 : ¬ i < 0) (h1 : i < n) : Met l yJ4_checkIndex (ws_ yJ4_checkIndex cJ4_checkIndex 2 none) ({ frames := 3, cells := 0, slots := 0, locals := 60 }) (va_Pc [.int i, .int n] (fun U => va_Z zPreC zSioN zSioD f (fun _ => False) U U.heap)) (va_Qv (fun (_ : Unit) => True) (fun _ _ => True) (fun _ => False)) 0 0 (fun _ => False) := by
  refine Met.ofW (cc := cJ4_checkIndex) (maxL := 2) (ret := none) (by decide) rfl ?_
  intro p e s m args below meth c s₁ B hml hv
  obtain ⟨rfl, hZ⟩ := hv
  have hx := B.exec
  have hb := B.bytes
  have hr := B.returns
  have hts := atoms_spec (ws := ws_ yJ4_checkIndex cJ4_checkIndex 2 none) B.pre
  have hts : ∀ w ∈ lw_all, w.before _ s = true := fun w h => hts w (List.mem_cons_of_mem _ h)
  have hown : s.vm.findClass "java/lang/String" = some m.cls := findClass_of_methodNamed B.named
  have hlocks := B.notSynchronized
  have hS : va_S (fun _ => False) s.heap s.heap [] := va_S.rf
  have hl := lv_entry ([.int i, .int n]) (n := 2) (Nat.le_of_ble_eq_true rfl)
  rw [lg_entry_eq]
  generalize (lg_sl ([.int i, .int n]) ++ List.replicate (2 - (lg_sl ([.int i, .int n])).length) Slot.unset).toArray = ls at hl ⊢
  have hl : lv_has ls 2 [(0, .int i), (1, .int n)] := hl
  refine lv_iload_n hx hb dJ4_checkIndex_0 rfl (lv_at hl 0 rfl) ?_
  refine lv_iload_n hx hb dJ4_checkIndex_1 rfl (lv_at hl 1 rfl) ?_
  refine va_gets hx hb hZ hS hown (hts _ q744) (fun x h => h) dJ4_checkIndex_2 ?_
  refine va_calli (va_runS (As := [.int i, .int n, f]) (rest := []) ⟨hx, hb, hml, hown, hts⟩ (zCki1 l i n f hf h0 h1) (va_cwS 3 hts (lw_S q746 q747 q193 q748) rfl rfl rfl (by decide +kernel) ⟨Nat.le_of_ble_eq_true rfl, Nat.le_of_ble_eq_true rfl⟩) ⟨fun a U g mk q => q, fun U hU hW => ⟨rfl, trivial⟩⟩ rfl rfl hl.1 rfl (lv_room (Nat.le_of_ble_eq_true rfl)) dJ4_checkIndex_5 ⟨Nat.le_refl 0, Nat.le_refl 0⟩) hS (fun q _ h => h) (fun q h => h) (fun r u t H1 locs1 ht hv9 _ _ hz hk hS1 => ?_)
  refine lv_pop hx hb dJ4_checkIndex_8 rfl ?_
  exact W.vret hx hb hr (fun t ht hW => ⟨⟨(), rfl, trivial, trivial⟩, hS1.F ht⟩) hS1.2.2 dJ4_checkIndex_9
/-! Exception(null, null, false, false) -/
theorem zD1 {h0 : Nat} {e : va_E} : va_D (fun q => q = h0) [(h0, e)] := by
  refine ⟨fun i j p q hi hj _ => ?_, fun k q hk => ?_⟩
  · have a1 := (List.getElem?_eq_some_iff.mp hi).1
    have a2 := (List.getElem?_eq_some_iff.mp hj).1
    simp only [List.length_cons, List.length_nil] at a1 a2
    omega
  · match k, hk with
    | 0, hk => cases hk; rfl
    | k + 1, hk => cases hk
theorem zSet_ge {fs : List Value} {i j : Nat} {v : Value} (hi : i < 6) (hj : 6 ≤ j) : (fs.set i v)[j]? = fs[j]? := List.getElem?_set_ne (by omega)

theorem zThr4_X2 (l : Launch) (D : va_G) (tys : List (ClassId × FieldType)) (h0 : Nat) (fs : List Value) (hfs : fs.length = 8) : Met l yJ0_init_2 (ws_ yJ0_init_2 cJ0_init_2 5 none) ({ frames := 2, cells := 0, slots := 0, locals := 40 }) (va_Pc [.ref h0, .null, .null, .int 0, .int 0] (fun U => va_P D zcl [(h0, .inr (2, fs))] U.heap ∧ va_K D zcl tys U ∧ va_Zq Bundle.tN "UNASSIGNED_STACK" Bundle.steD (fun q => q = h0) U U.heap ∧ va_Zq Bundle.tN "SUPPRESSED_SENTINEL" Bundle.listD (fun q => q = h0) U U.heap)) (va_Qv (fun gs : List Value => gs.length = 8 ∧ ∀ j, 6 ≤ j → gs[j]? = fs[j]?) (fun gs t => va_P D zcl [(h0, .inr (2, gs))] t.heap) (fun q => q = h0)) 0 0 (fun q => q = h0) := by
  refine Met.ofW (cc := cJ0_init_2) (maxL := 5) (ret := none) (by decide) rfl ?_
  intro p e s m args below meth c s₁ B hml hv
  obtain ⟨rfl, hP, hK, hU, hN⟩ := hv
  have hx := B.exec
  have hb := B.bytes
  have hr := B.returns
  have hts := atoms_spec (ws := ws_ yJ0_init_2 cJ0_init_2 5 none) B.pre
  have hts : ∀ w ∈ lw_all, w.before _ s = true := fun w h => hts w (List.mem_cons_of_mem _ h)
  have hown : s.vm.findClass "java/lang/Throwable" = some m.cls := findClass_of_methodNamed B.named
  have hlocks := B.notSynchronized
  have hS : va_S (fun q => q = h0) s.heap s.heap [] := va_S.rf
  have hD : va_D (fun q => q = h0) [(h0, (.inr (2, fs) : va_E))] := zD1
  obtain ⟨vU, hvU, hZU⟩ : ∃ v, (v = Value.null ∨ ∃ t : Nat, v = .ref t) ∧ va_Z Bundle.tN "UNASSIGNED_STACK" Bundle.steD v (fun q => q = h0) s s.heap := hU.elim (fun h => ⟨_, Or.inl rfl, h⟩) (fun ⟨t, h⟩ => ⟨_, Or.inr ⟨t, rfl⟩, h⟩)
  obtain ⟨vN, hvN, hZN⟩ : ∃ v, (v = Value.null ∨ ∃ t : Nat, v = .ref t) ∧ va_Z Bundle.tN "SUPPRESSED_SENTINEL" Bundle.listD v (fun q => q = h0) s s.heap := hN.elim (fun h => ⟨_, Or.inl rfl, h⟩) (fun ⟨t, h⟩ => ⟨_, Or.inr ⟨t, rfl⟩, h⟩)
  have hl := lv_entry ([.ref h0, .null, .null, .int 0, .int 0]) (n := 5) (Nat.le_of_ble_eq_true rfl)
  rw [lg_entry_eq]
  generalize (lg_sl ([.ref h0, .null, .null, .int 0, .int 0]) ++ List.replicate (5 - (lg_sl ([.ref h0, .null, .null, .int 0, .int 0])).length) Slot.unset).toArray = ls at hl ⊢
  have hl : lv_has ls 5 [(0, .ref h0), (1, .null), (2, .null), (3, .int 0), (4, .int 0)] := hl
  refine lv_aload_n hx hb dJ0_init_2_0 rfl (lv_at hl 0 rfl) ?_
  refine W.objInit hx hb hown (hts _ q251) (hts _ q215) (hts _ q216) rfl (by rw [hml]; exact hl.1) rfl dJ0_init_2_1 (Nat.le_of_ble_eq_true rfl) (Nat.le_of_ble_eq_true rfl) ?_
  refine W.eq (g2 := F0 m 4 ls []) rfl ?_
  refine lv_aload_n hx hb dJ0_init_2_4 rfl (lv_at hl 0 rfl) ?_
  refine lv_aload_n hx hb dJ0_init_2_5 rfl (lv_at hl 0 rfl) ?_
  refine va_put (D := D) (ci := 2) (v := (.ref h0)) (ty := .object "java/lang/Throwable") (C := RX2) (T := TX2) (N := 8) hx hb hts in_X2 tyX2 tyX2_ok nmX2 hown hK hP hD hS 0 rfl rfl 0 (by decide) (hts _ q283) (fun _ h9 => h9) rfl (by decide +kernel) rfl rfl (by simp [hfs]) dJ0_init_2_6 (fun H locs hP hD hS => ?_)
  have hP : va_P D zcl [(h0, .inr (2, (fs.set 0 (.ref h0))))] H := hP
  have hD : va_D (fun q => q = h0) [(h0, (.inr (2, (fs.set 0 (.ref h0))) : va_E))] := hD
  refine lv_aload_n hx hb dJ0_init_2_9 rfl (lv_at hl 0 rfl) ?_
  refine va_gets hx hb hZU hS hown (hts _ q252) (fun x h => h) dJ0_init_2_10 ?_
  refine va_put (D := D) (ci := 2) (v := vU) (ty := .array (.object "java/lang/StackTraceElement")) (C := RX2) (T := TX2) (N := 8) hx hb hts in_X2 tyX2 tyX2_ok nmX2 hown hK hP hD hS 0 rfl rfl 1 (by decide) (hts _ q284) (fun _ h9 => h9) rfl (by decide +kernel) (by rcases hvU with rfl | ⟨t, rfl⟩ <;> rfl) (by rcases hvU with rfl | ⟨t, rfl⟩ <;> rfl) (by simp [hfs]) dJ0_init_2_13 (fun H locs hP hD hS => ?_)
  have hP : va_P D zcl [(h0, .inr (2, ((fs.set 0 (.ref h0)).set 1 vU)))] H := hP
  have hD : va_D (fun q => q = h0) [(h0, (.inr (2, ((fs.set 0 (.ref h0)).set 1 vU)) : va_E))] := hD
  refine lv_aload_n hx hb dJ0_init_2_16 rfl (lv_at hl 0 rfl) ?_
  refine va_gets hx hb hZN hS hown (hts _ q254) (fun x h => h) dJ0_init_2_17 ?_
  refine va_put (D := D) (ci := 2) (v := vN) (ty := .object "java/util/List") (C := RX2) (T := TX2) (N := 8) hx hb hts in_X2 tyX2 tyX2_ok nmX2 hown hK hP hD hS 0 rfl rfl 2 (by decide) (hts _ q285) (fun _ h9 => h9) rfl (by decide +kernel) (by rcases hvN with rfl | ⟨t, rfl⟩ <;> rfl) (by rcases hvN with rfl | ⟨t, rfl⟩ <;> rfl) (by simp [hfs]) dJ0_init_2_20 (fun H locs hP hD hS => ?_)
  have hP : va_P D zcl [(h0, .inr (2, (((fs.set 0 (.ref h0)).set 1 vU).set 2 vN)))] H := hP
  have hD : va_D (fun q => q = h0) [(h0, (.inr (2, (((fs.set 0 (.ref h0)).set 1 vU).set 2 vN)) : va_E))] := hD
  refine lv_iload hx hb dJ0_init_2_23 (lv_at hl 4 rfl) ?_
  refine lv_if_eq hx hb dJ0_init_2_25 (tgt := 36) rfl (fun _ => ?_) (fun h => absurd rfl h)
  refine lv_aload_n hx hb dJ0_init_2_36 rfl (lv_at hl 0 rfl) ?_
  refine lv_null hx hb dJ0_init_2_37 ?_
  refine va_put (D := D) (ci := 2) (v := .null) (ty := .array (.object "java/lang/StackTraceElement")) (C := RX2) (T := TX2) (N := 8) hx hb hts in_X2 tyX2 tyX2_ok nmX2 hown hK hP hD hS 0 rfl rfl 1 (by decide) (hts _ q284) (fun _ h9 => h9) rfl (by decide +kernel) rfl rfl (by simp [hfs]) dJ0_init_2_38 (fun H locs hP hD hS => ?_)
  have hP : va_P D zcl [(h0, .inr (2, ((((fs.set 0 (.ref h0)).set 1 vU).set 2 vN).set 1 .null)))] H := hP
  have hD : va_D (fun q => q = h0) [(h0, (.inr (2, ((((fs.set 0 (.ref h0)).set 1 vU).set 2 vN).set 1 .null)) : va_E))] := hD
  refine lv_aload_n hx hb dJ0_init_2_41 rfl (lv_at hl 0 rfl) ?_
  refine lv_aload_nN hx hb dJ0_init_2_42 rfl (lv_at hl 1 rfl) ?_
  refine va_put (D := D) (ci := 2) (v := .null) (ty := .object "java/lang/String") (C := RX2) (T := TX2) (N := 8) hx hb hts in_X2 tyX2 tyX2_ok nmX2 hown hK hP hD hS 0 rfl rfl 3 (by decide) (hts _ q282) (fun _ h9 => h9) rfl (by decide +kernel) rfl rfl (by simp [hfs]) dJ0_init_2_43 (fun H locs hP hD hS => ?_)
  have hP : va_P D zcl [(h0, .inr (2, (((((fs.set 0 (.ref h0)).set 1 vU).set 2 vN).set 1 .null).set 3 .null)))] H := hP
  have hD : va_D (fun q => q = h0) [(h0, (.inr (2, (((((fs.set 0 (.ref h0)).set 1 vU).set 2 vN).set 1 .null).set 3 .null)) : va_E))] := hD
  refine lv_aload_n hx hb dJ0_init_2_46 rfl (lv_at hl 0 rfl) ?_
  refine lv_aload_nN hx hb dJ0_init_2_47 rfl (lv_at hl 2 rfl) ?_
  refine va_put (D := D) (ci := 2) (v := .null) (ty := .object "java/lang/Throwable") (C := RX2) (T := TX2) (N := 8) hx hb hts in_X2 tyX2 tyX2_ok nmX2 hown hK hP hD hS 0 rfl rfl 0 (by decide) (hts _ q283) (fun _ h9 => h9) rfl (by decide +kernel) rfl rfl (by simp [hfs]) dJ0_init_2_48 (fun H locs hP hD hS => ?_)
  have hP : va_P D zcl [(h0, .inr (2, ((((((fs.set 0 (.ref h0)).set 1 vU).set 2 vN).set 1 .null).set 3 .null).set 0 .null)))] H := hP
  have hD : va_D (fun q => q = h0) [(h0, (.inr (2, ((((((fs.set 0 (.ref h0)).set 1 vU).set 2 vN).set 1 .null).set 3 .null).set 0 .null)) : va_E))] := hD
  refine lv_iload_n hx hb dJ0_init_2_51 rfl (lv_at hl 3 rfl) ?_
  refine lv_if_ne hx hb dJ0_init_2_52 (tgt := 60) rfl (fun h => absurd rfl h) (fun _ => ?_)
  refine lv_aload_n hx hb dJ0_init_2_55 rfl (lv_at hl 0 rfl) ?_
  refine lv_null hx hb dJ0_init_2_56 ?_
  refine va_put (D := D) (ci := 2) (v := .null) (ty := .object "java/util/List") (C := RX2) (T := TX2) (N := 8) hx hb hts in_X2 tyX2 tyX2_ok nmX2 hown hK hP hD hS 0 rfl rfl 2 (by decide) (hts _ q285) (fun _ h9 => h9) rfl (by decide +kernel) rfl rfl (by simp [hfs]) dJ0_init_2_57 (fun H locs hP hD hS => ?_)
  have hP : va_P D zcl [(h0, .inr (2, (((((((fs.set 0 (.ref h0)).set 1 vU).set 2 vN).set 1 .null).set 3 .null).set 0 .null).set 2 .null)))] H := hP
  have hD : va_D (fun q => q = h0) [(h0, (.inr (2, (((((((fs.set 0 (.ref h0)).set 1 vU).set 2 vN).set 1 .null).set 3 .null).set 0 .null).set 2 .null)) : va_E))] := hD
  exact W.vret hx hb hr (fun t ht hW => ⟨⟨(((((((fs.set 0 (.ref h0)).set 1 vU).set 2 vN).set 1 .null).set 3 .null).set 0 .null).set 2 .null), rfl, ⟨by simp [hfs], fun j hj => by rw [zSet_ge (i := 2) (by decide) hj, zSet_ge (i := 0) (by decide) hj, zSet_ge (i := 3) (by decide) hj, zSet_ge (i := 1) (by decide) hj, zSet_ge (i := 2) (by decide) hj, zSet_ge (i := 1) (by decide) hj, zSet_ge (i := 0) (by decide) hj]⟩, show va_P D zcl [(h0, .inr (2, (((((((fs.set 0 (.ref h0)).set 1 vU).set 2 vN).set 1 .null).set 3 .null).set 0 .null).set 2 .null)))] t.heap by rw [ht]; exact hP⟩, hS.F ht⟩) hS.2.2 dJ0_init_2_60
theorem zExc4_X2 (l : Launch) (D : va_G) (tys : List (ClassId × FieldType)) (h0 : Nat) (fs : List Value) (hfs : fs.length = 8) : Met l yJ1_init (ws_ yJ1_init cJ1_init 5 none) ({ frames := 4, cells := 0, slots := 0, locals := 80 }) (va_Pc [.ref h0, .null, .null, .int 0, .int 0] (fun U => va_P D zcl [(h0, .inr (2, fs))] U.heap ∧ va_K D zcl tys U ∧ va_Zq Bundle.tN "UNASSIGNED_STACK" Bundle.steD (fun q => q = h0) U U.heap ∧ va_Zq Bundle.tN "SUPPRESSED_SENTINEL" Bundle.listD (fun q => q = h0) U U.heap)) (va_Qv (fun gs : List Value => gs.length = 8 ∧ ∀ j, 6 ≤ j → gs[j]? = fs[j]?) (fun gs t => va_P D zcl [(h0, .inr (2, gs))] t.heap) (fun q => q = h0)) 0 0 (fun q => q = h0) := by
  refine Met.ofW (cc := cJ1_init) (maxL := 5) (ret := none) (by decide) rfl ?_
  intro p e s m args below meth c s₁ B hml hv
  obtain ⟨rfl, hP, hK, hU, hN⟩ := hv
  have hx := B.exec
  have hb := B.bytes
  have hr := B.returns
  have hts := atoms_spec (ws := ws_ yJ1_init cJ1_init 5 none) B.pre
  have hts : ∀ w ∈ lw_all, w.before _ s = true := fun w h => hts w (List.mem_cons_of_mem _ h)
  have hown : s.vm.findClass "java/lang/Exception" = some m.cls := findClass_of_methodNamed B.named
  have hlocks := B.notSynchronized
  have hS : va_S (fun q => q = h0) s.heap s.heap [] := va_S.rf
  have hl := lv_entry ([.ref h0, .null, .null, .int 0, .int 0]) (n := 5) (Nat.le_of_ble_eq_true rfl)
  rw [lg_entry_eq]
  generalize (lg_sl ([.ref h0, .null, .null, .int 0, .int 0]) ++ List.replicate (5 - (lg_sl ([.ref h0, .null, .null, .int 0, .int 0])).length) Slot.unset).toArray = ls at hl ⊢
  have hl : lv_has ls 5 [(0, .ref h0), (1, .null), (2, .null), (3, .int 0), (4, .int 0)] := hl
  refine lv_aload_n hx hb dJ1_init_0 rfl (lv_at hl 0 rfl) ?_
  refine lv_aload_nN hx hb dJ1_init_1 rfl (lv_at hl 1 rfl) ?_
  refine lv_aload_nN hx hb dJ1_init_2 rfl (lv_at hl 2 rfl) ?_
  refine lv_iload_n hx hb dJ1_init_3 rfl (lv_at hl 3 rfl) ?_
  refine lv_iload hx hb dJ1_init_4 (lv_at hl 4 rfl) ?_
  refine va_callv (va_runI (As := [.null, .null, .int 0, .int 0]) (rest := []) ⟨hx, hb, hml, hown, hts⟩ (zThr4_X2 l D tys h0 fs hfs) (cwI 4 hts (lw_meth q276) rfl rfl rfl (hts _ q178) (hts _ q274) (hts _ q275) rfl (by decide +kernel) ⟨Nat.le_of_ble_eq_true rfl, Nat.le_of_ble_eq_true rfl⟩) ⟨fun a U g mk q => by obtain ⟨q0, qP, qK, qU, qN⟩ := q; exact ⟨q0, qP, va_K.moved (u := U) (U := U.calling g mk a) (Vm.Alike.refl U.vm) qK, va_Zq.moved (u := U) (U := U.calling g mk a) (Vm.Alike.refl U.vm) qU, va_Zq.moved (u := U) (U := U.calling g mk a) (Vm.Alike.refl U.vm) qN⟩, fun U hU9 hW => ⟨rfl, by rw [hU9]; exact hP, va_K.moved hW.alike hK, by rw [hU9]; exact va_Zq.moved hW.alike hU, by rw [hU9]; exact va_Zq.moved hW.alike hN⟩⟩ rfl rfl hl.1 rfl (lv_room (Nat.le_of_ble_eq_true rfl)) dJ1_init_6 ⟨Nat.le_refl 0, Nat.le_refl 0⟩) hS (fun q _ h => h) (fun q h => h) (fun gs t H1 locs1 ht hv9 hpost hB hz hk hS1 => ?_)
  exact W.vret hx hb hr (fun t9 ht9 hW => ⟨⟨gs, rfl, hpost, show va_P D zcl [(h0, .inr (2, gs))] t9.heap by rw [ht9, ← ht]; exact hB⟩, hS1.F ht9⟩) hS1.2.2 dJ1_init_9
theorem zThr4_X3 (l : Launch) (D : va_G) (tys : List (ClassId × FieldType)) (h0 : Nat) (fs : List Value) (hfs : fs.length = 7) : Met l yJ0_init_2 (ws_ yJ0_init_2 cJ0_init_2 5 none) ({ frames := 2, cells := 0, slots := 0, locals := 40 }) (va_Pc [.ref h0, .null, .null, .int 0, .int 0] (fun U => va_P D zcl [(h0, .inr (3, fs))] U.heap ∧ va_K D zcl tys U ∧ va_Zq Bundle.tN "UNASSIGNED_STACK" Bundle.steD (fun q => q = h0) U U.heap ∧ va_Zq Bundle.tN "SUPPRESSED_SENTINEL" Bundle.listD (fun q => q = h0) U U.heap)) (va_Qv (fun gs : List Value => gs.length = 7 ∧ ∀ j, 6 ≤ j → gs[j]? = fs[j]?) (fun gs t => va_P D zcl [(h0, .inr (3, gs))] t.heap) (fun q => q = h0)) 0 0 (fun q => q = h0) := by
  refine Met.ofW (cc := cJ0_init_2) (maxL := 5) (ret := none) (by decide) rfl ?_
  intro p e s m args below meth c s₁ B hml hv
  obtain ⟨rfl, hP, hK, hU, hN⟩ := hv
  have hx := B.exec
  have hb := B.bytes
  have hr := B.returns
  have hts := atoms_spec (ws := ws_ yJ0_init_2 cJ0_init_2 5 none) B.pre
  have hts : ∀ w ∈ lw_all, w.before _ s = true := fun w h => hts w (List.mem_cons_of_mem _ h)
  have hown : s.vm.findClass "java/lang/Throwable" = some m.cls := findClass_of_methodNamed B.named
  have hlocks := B.notSynchronized
  have hS : va_S (fun q => q = h0) s.heap s.heap [] := va_S.rf
  have hD : va_D (fun q => q = h0) [(h0, (.inr (3, fs) : va_E))] := zD1
  obtain ⟨vU, hvU, hZU⟩ : ∃ v, (v = Value.null ∨ ∃ t : Nat, v = .ref t) ∧ va_Z Bundle.tN "UNASSIGNED_STACK" Bundle.steD v (fun q => q = h0) s s.heap := hU.elim (fun h => ⟨_, Or.inl rfl, h⟩) (fun ⟨t, h⟩ => ⟨_, Or.inr ⟨t, rfl⟩, h⟩)
  obtain ⟨vN, hvN, hZN⟩ : ∃ v, (v = Value.null ∨ ∃ t : Nat, v = .ref t) ∧ va_Z Bundle.tN "SUPPRESSED_SENTINEL" Bundle.listD v (fun q => q = h0) s s.heap := hN.elim (fun h => ⟨_, Or.inl rfl, h⟩) (fun ⟨t, h⟩ => ⟨_, Or.inr ⟨t, rfl⟩, h⟩)
  have hl := lv_entry ([.ref h0, .null, .null, .int 0, .int 0]) (n := 5) (Nat.le_of_ble_eq_true rfl)
  rw [lg_entry_eq]
  generalize (lg_sl ([.ref h0, .null, .null, .int 0, .int 0]) ++ List.replicate (5 - (lg_sl ([.ref h0, .null, .null, .int 0, .int 0])).length) Slot.unset).toArray = ls at hl ⊢
  have hl : lv_has ls 5 [(0, .ref h0), (1, .null), (2, .null), (3, .int 0), (4, .int 0)] := hl
  refine lv_aload_n hx hb dJ0_init_2_0 rfl (lv_at hl 0 rfl) ?_
  refine W.objInit hx hb hown (hts _ q251) (hts _ q215) (hts _ q216) rfl (by rw [hml]; exact hl.1) rfl dJ0_init_2_1 (Nat.le_of_ble_eq_true rfl) (Nat.le_of_ble_eq_true rfl) ?_
  refine W.eq (g2 := F0 m 4 ls []) rfl ?_
  refine lv_aload_n hx hb dJ0_init_2_4 rfl (lv_at hl 0 rfl) ?_
  refine lv_aload_n hx hb dJ0_init_2_5 rfl (lv_at hl 0 rfl) ?_
  refine va_put (D := D) (ci := 3) (v := (.ref h0)) (ty := .object "java/lang/Throwable") (C := RX3) (T := TX3) (N := 7) hx hb hts in_X3 tyX3 tyX3_ok nmX3 hown hK hP hD hS 0 rfl rfl 0 (by decide) (hts _ q283) (fun _ h9 => h9) rfl (by decide +kernel) rfl rfl (by simp [hfs]) dJ0_init_2_6 (fun H locs hP hD hS => ?_)
  have hP : va_P D zcl [(h0, .inr (3, (fs.set 0 (.ref h0))))] H := hP
  have hD : va_D (fun q => q = h0) [(h0, (.inr (3, (fs.set 0 (.ref h0))) : va_E))] := hD
  refine lv_aload_n hx hb dJ0_init_2_9 rfl (lv_at hl 0 rfl) ?_
  refine va_gets hx hb hZU hS hown (hts _ q252) (fun x h => h) dJ0_init_2_10 ?_
  refine va_put (D := D) (ci := 3) (v := vU) (ty := .array (.object "java/lang/StackTraceElement")) (C := RX3) (T := TX3) (N := 7) hx hb hts in_X3 tyX3 tyX3_ok nmX3 hown hK hP hD hS 0 rfl rfl 1 (by decide) (hts _ q284) (fun _ h9 => h9) rfl (by decide +kernel) (by rcases hvU with rfl | ⟨t, rfl⟩ <;> rfl) (by rcases hvU with rfl | ⟨t, rfl⟩ <;> rfl) (by simp [hfs]) dJ0_init_2_13 (fun H locs hP hD hS => ?_)
  have hP : va_P D zcl [(h0, .inr (3, ((fs.set 0 (.ref h0)).set 1 vU)))] H := hP
  have hD : va_D (fun q => q = h0) [(h0, (.inr (3, ((fs.set 0 (.ref h0)).set 1 vU)) : va_E))] := hD
  refine lv_aload_n hx hb dJ0_init_2_16 rfl (lv_at hl 0 rfl) ?_
  refine va_gets hx hb hZN hS hown (hts _ q254) (fun x h => h) dJ0_init_2_17 ?_
  refine va_put (D := D) (ci := 3) (v := vN) (ty := .object "java/util/List") (C := RX3) (T := TX3) (N := 7) hx hb hts in_X3 tyX3 tyX3_ok nmX3 hown hK hP hD hS 0 rfl rfl 2 (by decide) (hts _ q285) (fun _ h9 => h9) rfl (by decide +kernel) (by rcases hvN with rfl | ⟨t, rfl⟩ <;> rfl) (by rcases hvN with rfl | ⟨t, rfl⟩ <;> rfl) (by simp [hfs]) dJ0_init_2_20 (fun H locs hP hD hS => ?_)
  have hP : va_P D zcl [(h0, .inr (3, (((fs.set 0 (.ref h0)).set 1 vU).set 2 vN)))] H := hP
  have hD : va_D (fun q => q = h0) [(h0, (.inr (3, (((fs.set 0 (.ref h0)).set 1 vU).set 2 vN)) : va_E))] := hD
  refine lv_iload hx hb dJ0_init_2_23 (lv_at hl 4 rfl) ?_
  refine lv_if_eq hx hb dJ0_init_2_25 (tgt := 36) rfl (fun _ => ?_) (fun h => absurd rfl h)
  refine lv_aload_n hx hb dJ0_init_2_36 rfl (lv_at hl 0 rfl) ?_
  refine lv_null hx hb dJ0_init_2_37 ?_
  refine va_put (D := D) (ci := 3) (v := .null) (ty := .array (.object "java/lang/StackTraceElement")) (C := RX3) (T := TX3) (N := 7) hx hb hts in_X3 tyX3 tyX3_ok nmX3 hown hK hP hD hS 0 rfl rfl 1 (by decide) (hts _ q284) (fun _ h9 => h9) rfl (by decide +kernel) rfl rfl (by simp [hfs]) dJ0_init_2_38 (fun H locs hP hD hS => ?_)
  have hP : va_P D zcl [(h0, .inr (3, ((((fs.set 0 (.ref h0)).set 1 vU).set 2 vN).set 1 .null)))] H := hP
  have hD : va_D (fun q => q = h0) [(h0, (.inr (3, ((((fs.set 0 (.ref h0)).set 1 vU).set 2 vN).set 1 .null)) : va_E))] := hD
  refine lv_aload_n hx hb dJ0_init_2_41 rfl (lv_at hl 0 rfl) ?_
  refine lv_aload_nN hx hb dJ0_init_2_42 rfl (lv_at hl 1 rfl) ?_
  refine va_put (D := D) (ci := 3) (v := .null) (ty := .object "java/lang/String") (C := RX3) (T := TX3) (N := 7) hx hb hts in_X3 tyX3 tyX3_ok nmX3 hown hK hP hD hS 0 rfl rfl 3 (by decide) (hts _ q282) (fun _ h9 => h9) rfl (by decide +kernel) rfl rfl (by simp [hfs]) dJ0_init_2_43 (fun H locs hP hD hS => ?_)
  have hP : va_P D zcl [(h0, .inr (3, (((((fs.set 0 (.ref h0)).set 1 vU).set 2 vN).set 1 .null).set 3 .null)))] H := hP
  have hD : va_D (fun q => q = h0) [(h0, (.inr (3, (((((fs.set 0 (.ref h0)).set 1 vU).set 2 vN).set 1 .null).set 3 .null)) : va_E))] := hD
  refine lv_aload_n hx hb dJ0_init_2_46 rfl (lv_at hl 0 rfl) ?_
  refine lv_aload_nN hx hb dJ0_init_2_47 rfl (lv_at hl 2 rfl) ?_
  refine va_put (D := D) (ci := 3) (v := .null) (ty := .object "java/lang/Throwable") (C := RX3) (T := TX3) (N := 7) hx hb hts in_X3 tyX3 tyX3_ok nmX3 hown hK hP hD hS 0 rfl rfl 0 (by decide) (hts _ q283) (fun _ h9 => h9) rfl (by decide +kernel) rfl rfl (by simp [hfs]) dJ0_init_2_48 (fun H locs hP hD hS => ?_)
  have hP : va_P D zcl [(h0, .inr (3, ((((((fs.set 0 (.ref h0)).set 1 vU).set 2 vN).set 1 .null).set 3 .null).set 0 .null)))] H := hP
  have hD : va_D (fun q => q = h0) [(h0, (.inr (3, ((((((fs.set 0 (.ref h0)).set 1 vU).set 2 vN).set 1 .null).set 3 .null).set 0 .null)) : va_E))] := hD
  refine lv_iload_n hx hb dJ0_init_2_51 rfl (lv_at hl 3 rfl) ?_
  refine lv_if_ne hx hb dJ0_init_2_52 (tgt := 60) rfl (fun h => absurd rfl h) (fun _ => ?_)
  refine lv_aload_n hx hb dJ0_init_2_55 rfl (lv_at hl 0 rfl) ?_
  refine lv_null hx hb dJ0_init_2_56 ?_
  refine va_put (D := D) (ci := 3) (v := .null) (ty := .object "java/util/List") (C := RX3) (T := TX3) (N := 7) hx hb hts in_X3 tyX3 tyX3_ok nmX3 hown hK hP hD hS 0 rfl rfl 2 (by decide) (hts _ q285) (fun _ h9 => h9) rfl (by decide +kernel) rfl rfl (by simp [hfs]) dJ0_init_2_57 (fun H locs hP hD hS => ?_)
  have hP : va_P D zcl [(h0, .inr (3, (((((((fs.set 0 (.ref h0)).set 1 vU).set 2 vN).set 1 .null).set 3 .null).set 0 .null).set 2 .null)))] H := hP
  have hD : va_D (fun q => q = h0) [(h0, (.inr (3, (((((((fs.set 0 (.ref h0)).set 1 vU).set 2 vN).set 1 .null).set 3 .null).set 0 .null).set 2 .null)) : va_E))] := hD
  exact W.vret hx hb hr (fun t ht hW => ⟨⟨(((((((fs.set 0 (.ref h0)).set 1 vU).set 2 vN).set 1 .null).set 3 .null).set 0 .null).set 2 .null), rfl, ⟨by simp [hfs], fun j hj => by rw [zSet_ge (i := 2) (by decide) hj, zSet_ge (i := 0) (by decide) hj, zSet_ge (i := 3) (by decide) hj, zSet_ge (i := 1) (by decide) hj, zSet_ge (i := 2) (by decide) hj, zSet_ge (i := 1) (by decide) hj, zSet_ge (i := 0) (by decide) hj]⟩, show va_P D zcl [(h0, .inr (3, (((((((fs.set 0 (.ref h0)).set 1 vU).set 2 vN).set 1 .null).set 3 .null).set 0 .null).set 2 .null)))] t.heap by rw [ht]; exact hP⟩, hS.F ht⟩) hS.2.2 dJ0_init_2_60
theorem zExc4_X3 (l : Launch) (D : va_G) (tys : List (ClassId × FieldType)) (h0 : Nat) (fs : List Value) (hfs : fs.length = 7) : Met l yJ1_init (ws_ yJ1_init cJ1_init 5 none) ({ frames := 4, cells := 0, slots := 0, locals := 80 }) (va_Pc [.ref h0, .null, .null, .int 0, .int 0] (fun U => va_P D zcl [(h0, .inr (3, fs))] U.heap ∧ va_K D zcl tys U ∧ va_Zq Bundle.tN "UNASSIGNED_STACK" Bundle.steD (fun q => q = h0) U U.heap ∧ va_Zq Bundle.tN "SUPPRESSED_SENTINEL" Bundle.listD (fun q => q = h0) U U.heap)) (va_Qv (fun gs : List Value => gs.length = 7 ∧ ∀ j, 6 ≤ j → gs[j]? = fs[j]?) (fun gs t => va_P D zcl [(h0, .inr (3, gs))] t.heap) (fun q => q = h0)) 0 0 (fun q => q = h0) := by
  refine Met.ofW (cc := cJ1_init) (maxL := 5) (ret := none) (by decide) rfl ?_
  intro p e s m args below meth c s₁ B hml hv
  obtain ⟨rfl, hP, hK, hU, hN⟩ := hv
  have hx := B.exec
  have hb := B.bytes
  have hr := B.returns
  have hts := atoms_spec (ws := ws_ yJ1_init cJ1_init 5 none) B.pre
  have hts : ∀ w ∈ lw_all, w.before _ s = true := fun w h => hts w (List.mem_cons_of_mem _ h)
  have hown : s.vm.findClass "java/lang/Exception" = some m.cls := findClass_of_methodNamed B.named
  have hlocks := B.notSynchronized
  have hS : va_S (fun q => q = h0) s.heap s.heap [] := va_S.rf
  have hl := lv_entry ([.ref h0, .null, .null, .int 0, .int 0]) (n := 5) (Nat.le_of_ble_eq_true rfl)
  rw [lg_entry_eq]
  generalize (lg_sl ([.ref h0, .null, .null, .int 0, .int 0]) ++ List.replicate (5 - (lg_sl ([.ref h0, .null, .null, .int 0, .int 0])).length) Slot.unset).toArray = ls at hl ⊢
  have hl : lv_has ls 5 [(0, .ref h0), (1, .null), (2, .null), (3, .int 0), (4, .int 0)] := hl
  refine lv_aload_n hx hb dJ1_init_0 rfl (lv_at hl 0 rfl) ?_
  refine lv_aload_nN hx hb dJ1_init_1 rfl (lv_at hl 1 rfl) ?_
  refine lv_aload_nN hx hb dJ1_init_2 rfl (lv_at hl 2 rfl) ?_
  refine lv_iload_n hx hb dJ1_init_3 rfl (lv_at hl 3 rfl) ?_
  refine lv_iload hx hb dJ1_init_4 (lv_at hl 4 rfl) ?_
  refine va_callv (va_runI (As := [.null, .null, .int 0, .int 0]) (rest := []) ⟨hx, hb, hml, hown, hts⟩ (zThr4_X3 l D tys h0 fs hfs) (cwI 4 hts (lw_meth q276) rfl rfl rfl (hts _ q178) (hts _ q274) (hts _ q275) rfl (by decide +kernel) ⟨Nat.le_of_ble_eq_true rfl, Nat.le_of_ble_eq_true rfl⟩) ⟨fun a U g mk q => by obtain ⟨q0, qP, qK, qU, qN⟩ := q; exact ⟨q0, qP, va_K.moved (u := U) (U := U.calling g mk a) (Vm.Alike.refl U.vm) qK, va_Zq.moved (u := U) (U := U.calling g mk a) (Vm.Alike.refl U.vm) qU, va_Zq.moved (u := U) (U := U.calling g mk a) (Vm.Alike.refl U.vm) qN⟩, fun U hU9 hW => ⟨rfl, by rw [hU9]; exact hP, va_K.moved hW.alike hK, by rw [hU9]; exact va_Zq.moved hW.alike hU, by rw [hU9]; exact va_Zq.moved hW.alike hN⟩⟩ rfl rfl hl.1 rfl (lv_room (Nat.le_of_ble_eq_true rfl)) dJ1_init_6 ⟨Nat.le_refl 0, Nat.le_refl 0⟩) hS (fun q _ h => h) (fun q h => h) (fun gs t H1 locs1 ht hv9 hpost hB hz hk hS1 => ?_)
  exact W.vret hx hb hr (fun t9 ht9 hW => ⟨⟨gs, rfl, hpost, show va_P D zcl [(h0, .inr (3, gs))] t9.heap by rw [ht9, ← ht]; exact hB⟩, hS1.F ht9⟩) hS1.2.2 dJ1_init_9
/-! arraycopy's throw -/
/-- a message of a native method, no traces kept: from its note over the native's frame to 'throwing' over the caller's (follows vx_vmAt) -/
theorem zNatAt {p : Program} {l : Launch} {e : Env} {R : Room} {s : State} {m₀ : MethodId} {args : Array Value} {below : List Frame} {meth : Method} {c : Code} {W : State} {locs : List Loc} {cells slots : Nat}
    (X : Stand p l e R s m₀ args below meth c W locs cells slots) (hexec : p.tables.exec = Jvm.exec) (htr : e.platform.stackTraces = false) {cls : String} {names : List String} {text : String}
    (hcls : Bundle.fit cls = true) (hnames : ∀ n ∈ names, Bundle.fit n = true) (hsoe : (cls == "java/lang/StackOverflowError") = false) (hoom : (cls == "java/lang/OutOfMemoryError") = false)
    (h : ∀ a ∈ Bundle.messageArmAtoms cls names, a.before args s = true)
    (hlocs : ∀ x ∈ locs, ∀ cell, s.heap[x.base]? = some cell → cell.vm.isStatics = false)
    (htext : (text == notModelled) = false) (hlimit : ¬ (stringBytes (stringToUtf16 text)).size > e.platform.arrayLengthLimit) (hheap : ¬ (stringBytes (stringToUtf16 text)).size * componentBytes .byte > e.platform.maxHeapBytes)
    {g : JFrame} (hg : g.method = m₀) (hsize : g.locals.size = c.maxLocals) {nf : NFrame} (hnf : nf.words = 0) (haw : nf.awaiting = false) (hlk : nf.locked = none)
    (hRframes : names.length + 5 < R.frames) (hRlocals : 2 * g.monitorRoom + (g.stack.map fun v => v.category).sum + 10240 ≤ R.locals) (hshort : 13 * names.length + 55 ≤ 10240)
    (hRcells : cells + 3 ≤ R.cells) (hRslots : slots + ((stringBytes (stringToUtf16 text)).size + 4 + 6) ≤ R.slots) :
    ∃ (S : State) (q : Addr) (ce : Cell), (∀ target, Steps p.tables e below ((S.setTop g).pushFrame (.throwing q)) target → Steps p.tables e below (W.setFrames (.throwNew cls (some text) none :: .native nf :: .java g :: below)) target) ∧
      Stand p l e R s m₀ args below meth c S locs (cells + 3) (slots + ((stringBytes (stringToUtf16 text)).size + 4 + 6)) ∧ S.heap[q]? = some ce ∧ s.vm.findClass cls = some ce.cls ∧ ce.vm = .none := by
  have howns : e.platform.frameOwnsMonitors = true := by rw [X.admits.platform]
  have hfin : e.platform.finalization = false := by rw [X.admits.platform]
  have hpl : e.platform.magicAccessors = ({} : Platform).magicAccessors := by rw [X.admits.platform]
  have a : ∀ x, x ∈ Bundle.messageArmAtoms cls names → x.holds args s none s [] = true := fun x hx => h x hx
  obtain ⟨T, Z0, L, -, Y⟩ := ThrowableC.of_atoms (args := args) howns hfin hpl (fun x hx => h x (by simp [Bundle.messageArmAtoms, hx]))
  obtain ⟨Z, M, LZ, LM, hnZ⟩ := Init0T.ofS_atoms (args := args) hpl L Y (fun x hx => h x (by simp [Bundle.messageArmAtoms, hx]))
  obtain ⟨P1, Ps, hlen, L1, hL, hP1m, hlink1, hlink⟩ := Bundle.chainS (args := args) hpl hnZ names cls hcls hnames (fun x hx => h x (by simp [Bundle.messageArmAtoms, hx]))
  obtain ⟨Zs, LZs, hn4, hfitv, hfitc⟩ := StringT.of_atoms (args := args) (fun x hx => h x (by simp [Bundle.messageArmAtoms, hx]))
  have hfound : s.vm.findClass cls = some P1.m.cls := findClass_of_methodNamed hP1m
  obtain ⟨c1, kX, hc1, hk, hord, -, -, hn6⟩ := Cond.instantiable_spec (a (.instantiable cls 6) (by simp [Bundle.messageArmAtoms]))
  cases Option.some.inj (hc1.symm.trans hfound)
  have hinit := Cond.initialized_spec hfound hk (a (.initialized cls) (by simp [Bundle.messageArmAtoms]))
  have hctor : kX.findMethod "<init>" "(Ljava/lang/String;)V" = some P1.m.idx := findMethod_of_methodNamed hP1m hk
  have hsel0 : selectMethod e.platform s.vm P1.m.cls T.fill0 = .method T.fill0 := by
    obtain ⟨c2, r2, m2, q1, q2, q3, q4, -⟩ := Cond.selects_spec (a (.selects cls Bundle.tFill0 Bundle.tFill0) (by simp [Bundle.messageArmAtoms]))
    cases Option.some.inj (q1.symm.trans hfound)
    cases Option.some.inj (q2.symm.trans (State.methodFound?_of_named Y.fill0 (by decide)))
    cases Option.some.inj (q3.symm.trans Y.fill0)
    rw [Launch.admits_selectMethod X.admits]; exact q4
  have hselF : selectMethod e.platform s.vm P1.m.cls T.fill = .method T.fill := by
    obtain ⟨c2, r2, m2, q1, q2, q3, q4, -⟩ := Cond.selects_spec (a (.selects cls Bundle.tFill Bundle.tFill) (by simp [Bundle.messageArmAtoms]))
    cases Option.some.inj (q1.symm.trans hfound)
    cases Option.some.inj (q2.symm.trans (State.methodFound?_of_named Y.fill (by decide)))
    cases Option.some.inj (q3.symm.trans Y.fill)
    rw [Launch.admits_selectMethod X.admits]; exact q4
  obtain ⟨cellS0, hcS0, hiss⟩ := Y.statics
  obtain ⟨u0, hu0⟩ := Cond.staticRefV Y.unassigned L.unassignedStatic L.statics hcS0 hiss (a (.isRef (.static Bundle.tN "UNASSIGNED_STACK" Bundle.steD)) (by simp [Bundle.messageArmAtoms]))
  obtain ⟨sen, hsen⟩ := Cond.staticRefV Y.sentinel L.sentinelStatic L.statics hcS0 hiss (a (.isRef (.static Bundle.tN "SUPPRESSED_SENTINEL" Bundle.listD)) (by simp [Bundle.messageArmAtoms]))
  obtain ⟨ci198, i198, fB, hk198, hg198, ha198, hsB, -, hnB, htB, hffB⟩ := Cond.ownField (t := .object "java/lang/Object") Y.found L.cls (by decide +kernel) (a (.fieldLink Bundle.tN 198 Bundle.tN "backtrace" "Ljava/lang/Object;") (by simp [Bundle.messageArmAtoms])) (a (.lays Bundle.tN Bundle.tN "backtrace" "Ljava/lang/Object;") (by simp [Bundle.messageArmAtoms])) e.platform hpl
  obtain ⟨cellS, hcS', heS, -, hkeep⟩ := X.same.2.2.2.2.2 T.aS cellS0 hcS0
  have hcellS : W.heap[T.aS]? = some cellS := hcS'
  have hout' : ∀ i, (⟨T.aS, i⟩ : Loc) ∉ locs := fun i hmem => by
    have := hlocs _ hmem cellS0 hcS0
    rw [hiss] at this; cases this
  have hknownS : cellS.vm ≠ .unknown := by
    rw [heS]; intro hu
    rw [show cellS0.vm = .unknown from hu] at hiss
    cases hiss
  have hvU : cellS.slots[T.fUnassigned.slot]? = some u0.v := by rw [hkeep _ (hout' _)]; exact hu0
  have hvSen : cellS.slots[T.fSentinel.slot]? = some sen.v := by rw [hkeep _ (hout' _)]; exact hsen
  obtain ⟨iM, hffM⟩ := Y.msg
  obtain ⟨tyC, dC, hdC, hdnC⟩ := Cond.laysAt hfound hk Y.cause (a (.lays cls Bundle.tN "cause" "Ljava/lang/Throwable;") (by simp [Bundle.messageArmAtoms]))
  obtain ⟨tyS, dS, hdS, hdnS⟩ := Cond.laysAt hfound hk Y.stack (a (.lays cls Bundle.tN "stackTrace" Bundle.steD) (by simp [Bundle.messageArmAtoms]))
  obtain ⟨tyP, dP, hdP, hdnP⟩ := Cond.laysAt hfound hk Y.supp (a (.lays cls Bundle.tN "suppressedExceptions" Bundle.listD) (by simp [Bundle.messageArmAtoms]))
  obtain ⟨tyM, dM, hdM, hdnM⟩ := Cond.laysAt hfound hk hffM (a (.lays cls Bundle.tN "detailMessage" "Ljava/lang/String;") (by simp [Bundle.messageArmAtoms]))
  obtain ⟨tyB, dB, hdB, hdnB⟩ := Cond.laysAt hfound hk hffB (a (.lays cls Bundle.tN "backtrace" "Ljava/lang/Object;") (by simp [Bundle.messageArmAtoms]))
  have bC := Cond.laysApart hdB hdC hdnB hdnC (by rw [hnB, Y.causeName]; decide)
  have bS := Cond.laysApart hdB hdS hdnB hdnS (by rw [hnB, Y.stackName]; decide)
  have bP := Cond.laysApart hdB hdP hdnB hdnP (by rw [hnB, Y.suppName]; decide)
  have hbk : ((preparedCellV T.toThrowableT (freshCell P1.m.cls kX) (W.heap.size + 2) u0 sen).withEntry W.cur).slots[fB.slot]? = some .null := by
    have := fresh_default (c := P1.m.cls) tyB
    rw [htB] at this
    simpa [preparedCellV, Cell.setSlot, Cell.withEntry, Array.getElem?_setIfInBounds, bC, bS, bP, bC.symm, bS.symm, bP.symm, defaultValue] using this
  have tkC := Takes.of_laid (v := .ref (W.heap.size + 2)) hk hord tyC (by rw [Y.causeType]; rfl)
  have tkS := Takes.of_laid (v := u0.v) hk hord tyS (by rw [Y.stackType]; exact fits_refV_array _ u0)
  have tkP := Takes.of_laid (v := sen.v) hk hord tyP (by rw [Y.suppType]; exact fits_refV_object _ sen)
  have tkM := Takes.of_laid (v := .ref (W.heap.size + 1)) hk hord tyM (by rw [Y.msgType]; rfl)
  have hskip : SkipFacts T e.platform s (fun u => u) u0 ((preparedCellV T.toThrowableT (freshCell P1.m.cls kX) (W.heap.size + 2) u0 sen).withEntry W.cur) := ⟨{ ci198 := ci198, i198 := i198, fBack := fB }, ⟨hk198, hg198, ha198, hsB⟩, hbk, fun _ _ => rfl⟩
  obtain ⟨vm', X5, h1, hkept⟩ := X.nativeThrowsMessageColdBareV hexec hsize hnf T L Z LZ M LM Zs LZs P1 L1 Ps hL hlink1 hlink hsoe hoom hfound hk hinit hord hctor htext hlimit hheap (hfitv _) (hfitc _) hsel0 hselF hcellS hknownS hvU hvSen tkC tkS tkP tkM Y.objLocals hskip (fun _ _ hA hW _ hroom _ hrest => L.nativeOff p htr hA hW hroom hrest) (by rw [hlen]; exact hRframes) hRlocals (by rw [hlen]; exact hshort) hRcells (by rw [hn4, hn6]; omega)
  obtain ⟨-, -, w3, -, -, -, -⟩ := withThrown_facts e.platform W Zs text P1.m.cls kX
  have ha : (W.heap.size + 2) < ((withThrown W Zs text P1.m.cls kX).setVm vm').heap.size := by show _ < (withThrown W Zs text P1.m.cls kX).heap.size; rw [w3]; omega
  have b1 : (bytesOf Zs.cB (stringToUtf16 text)).slots.size = (stringBytes (stringToUtf16 text)).size := by
    rw [(Cell.writeAll_facts _ _).2.2]; simp [bytes0]
  have b2 : (stringAt Zs.cS Zs.kS Zs.fv Zs.fc (stringToUtf16 text) W.heap.size).slots.size = 4 := by simp [string0, Cell.setSlot, hn4]
  have b3 : (freshCell P1.m.cls kX).slots.size = 6 := by simp [hn6]
  rw [b1, b2, b3] at X5
  have e9 : slots + (stringBytes (stringToUtf16 text)).size + 4 + 6 = slots + ((stringBytes (stringToUtf16 text)).size + 4 + 6) := by omega
  rw [e9] at X5
  obtain ⟨g₁, hfrM⟩ := X5.frames_eq
  refine ⟨((withThrown W Zs text P1.m.cls kX).setVm vm').setCell (W.heap.size + 2) (plainBareV T.toThrowableT (freshCell P1.m.cls kX) (W.heap.size + 2) u0 sen (.ref (W.heap.size + 1))), W.heap.size + 2, _, fun target ht => h1.trans ?_,
    X5.forget (fun y hy => ?_), heapAt_setCell_self _ ha, hfound, rfl⟩
  · refine Steps.throwingLeavesNative ⟨X5.here.running, X5.here.runnable, X5.here.alone⟩ (State.cur_lt_of_frames hfrM) ⟨[.java g], rfl⟩ haw hlk ?_
    have hV : ((((withThrown W Zs text P1.m.cls kX).setVm vm').setCell (W.heap.size + 2) (plainBareV T.toThrowableT (freshCell P1.m.cls kX) (W.heap.size + 2) u0 sen (.ref (W.heap.size + 1)))).setTop g).pushFrame (.throwing (W.heap.size + 2)) = (((withThrown W Zs text P1.m.cls kX).setVm vm').setCell (W.heap.size + 2) (plainBareV T.toThrowableT (freshCell P1.m.cls kX) (W.heap.size + 2) u0 sen (.ref (W.heap.size + 1)))).setFrames (.throwing (W.heap.size + 2) :: .java g :: below) := by
      rw [State.pushFrame, State.frames_setTop _ hfrM, State.setTop_of_frames _ hfrM, State.setFrames_setFrames]
    rw [← hV]
    exact ht
  · simp only [List.mem_cons, List.not_mem_nil, or_false] at hy
    have hge : s.heap.size ≤ W.heap.size := X.same.2.1
    rcases hy with rfl | rfl | rfl | rfl | rfl <;> exact Nat.le_trans hge (Nat.le_add_right _ 2)
section ZOW
variable {p : Program} {l : Launch} {e : Env} {R : Room} {s : State} {m : MethodId} {args : Array Value} {below : List Frame} {meth : Method} {c : Code} {H : Heap} {locs : List Loc} {cells slots : Nat} {Q : State → Prop}
theorem zCpyT {cc : ByteArray} {pc : Nat} {ls : Array Slot} {rest : List Value} (hexec : p.tables.exec = Jvm.exec) (hb : c.code = cc) (hml : c.maxLocals = ls.size) {own : String} {index : Nat} (hown : s.vm.findClass own = some m.cls) (hlink : (Cond.methodLink own index arraycopyName).before args s = true) (hnat : (Cond.native arraycopyName).before args s = true) (hstat : (Cond.static arraycopyName).before args s = true) (hini : (Cond.initialized "java/lang/System").before args s = true)
    (hl : l.stackTraces = false) {cls what : String} {names : List String} {nb : Nat} {A : Nat → Prop} (hc31 : cls = "java/lang/ArrayIndexOutOfBoundsException")
    (hcls : Bundle.fit cls = true) (hnames : ∀ n ∈ names, Bundle.fit n = true) (hsoe : (cls == "java/lang/StackOverflowError") = false) (hoom : (cls == "java/lang/OutOfMemoryError") = false)
    (hat : ∀ w ∈ vx_atM cls names, w.before args s = true) (hgood : ∀ w ∈ vx_atM cls names, vx_ot w = true)
    (hU : vx_Zq Bundle.tN "UNASSIGNED_STACK" Bundle.steD A s s.heap) (hN : vx_Zq Bundle.tN "SUPPRESSED_SENTINEL" Bundle.listD A s s.heap) (hS : va_S A s.heap H locs)
    (htext : (("arraycopy: " ++ what) == notModelled) = false) (hnb : (stringBytes (stringToUtf16 ("arraycopy: " ++ what))).size ≤ nb) (hnb1 : nb ≤ 1000)
    (hRframes : names.length + 5 < R.frames) (hRlocals : (rest.map fun v => v.category).sum + 10240 ≤ R.locals) (hshort : 13 * names.length + 55 ≤ 10240) (hRcells : cells + 3 ≤ R.cells) (hRslots : slots + (nb + 10) ≤ R.slots)
    {src dst : Nat} {sp dp n : Int32} {cs cd : Cell} {ks kd : Class} {sComp dComp : ClassId} {sType dType : FieldType} (hs : H[src]? = some cs) (hd : H[dst]? = some cd) (hsobj : ∀ k, cs.vm ≠ .statics k) (hdobj : ∀ k, cd.vm ≠ .statics k)
    (hks : s.vm.classes[cs.cls]? = some ks) (hkd : s.vm.classes[cd.cls]? = some kd) (hsk : ks.kind = .array sComp sType) (hdk : kd.kind = .array dComp dType) (hty : ((refKind sType != refKind dType) || (!refKind sType && sType != dType)) = false) (hf : copyFault sType dType cs.slots.size cd.slots.size sp dp n = some what)
    (hdg : decode cc pc = .ok (.invokestatic index, 3))
    (k : ∀ (H1 : Heap) (q9 : Addr) (ce : Cell), H.size ≤ H1.size → (∀ q : Nat, q < H.size → H1[q]? = H[q]?) → va_S A s.heap H1 locs → H1[q9]? = some ce → ce.vm = .none → s.vm.findClass cls = some ce.cls → vx_W p l e R s m args below meth c H1 locs (cells + 3) (slots + (nb + 10)) Q (F0 m pc ls rest) q9) :
    W p l e R s m args below meth c H locs cells slots Q (F0 m pc ls (.int n :: .int dp :: .ref dst :: .int sp :: .ref src :: rest)) := by
  subst hc31
  intro T0 hT X0
  have htr : e.platform.stackTraces = false := (show e.platform.stackTraces = l.stackTraces by rw [X0.admits.platform]).trans hl
  obtain ⟨r, kS, methS, hnS, hmS, hkS, N⟩ := NativeOf.of_static hnat hstat (ps := [.object "java/lang/Object", .int, .object "java/lang/Object", .int, .int]) (ret := none) (by decide +kernel)
  have hinitS : kS.init = .initialized := Cond.initialized_spec (findClass_of_methodNamed hnS) hkS hini
  obtain ⟨vm', X, step⟩ := X0.invokestatic hexec hown hlink hnS hmS N.static hkS hinitS (by decide) (g := F0 m pc ls (.int n :: .int dp :: .ref dst :: .int sp :: .ref src :: rest)) rfl (argsL := [.ref src, .int sp, .ref dst, .int dp, .int n]) (rest := rest) (by rw [N.sig]; rfl) rfl (by rw [hb]; exact hdg)
  have hT : (T0.setVm vm').heap = H := hT
  have hA' : s.vm.Alike vm' := X.warmed.alike
  obtain ⟨kS', N'⟩ := N.alike hA'
  obtain ⟨ks', hks', hes⟩ := hA'.2.2 _ _ hks
  obtain ⟨kd', hkd', hed⟩ := hA'.2.2 _ _ hkd
  generalize hT1 : T0.setVm vm' = T at X step hT
  have hsT : T.heap[src]? = some cs := by rw [hT]; exact hs
  have hdT : T.heap[dst]? = some cd := by rw [hT]; exact hd
  have hvm : T.vm = vm' := by rw [← hT1]; rfl
  have Y := vx_rebase X (R' := { frames := R.frames, locals := R.locals, cells := 3, slots := nb + 10 }) (Nat.le_refl _) (Nat.le_refl _) hRcells hRslots
  have hhp : ((T.setVm s.vm).setFrames (.invoking m args :: below)).heap = H := hT
  have hW0 : s.WarmedH ((T.setVm s.vm).setFrames (.invoking m args :: below)).vm := State.WarmedH.refl s
  have hat' : ∀ w ∈ vx_atM "java/lang/ArrayIndexOutOfBoundsException" names, w.before args ((T.setVm s.vm).setFrames (.invoking m args :: below)) = true := fun w hw => vx_ot_at hW0 rfl (hgood w hw) (hat w hw)
  have hU' : vx_Zq Bundle.tN "UNASSIGNED_STACK" Bundle.steD A ((T.setVm s.vm).setFrames (.invoking m args :: below)) ((T.setVm s.vm).setFrames (.invoking m args :: below)).heap := by rw [hhp]; exact vx_Zq.moved hW0.alike (hU.kept hS.2.1)
  have hN' : vx_Zq Bundle.tN "SUPPRESSED_SENTINEL" Bundle.listD A ((T.setVm s.vm).setFrames (.invoking m args :: below)) ((T.setVm s.vm).setFrames (.invoking m args :: below)).heap := by rw [hhp]; exact vx_Zq.moved hW0.alike (hN.kept hS.2.1)
  obtain ⟨S, q, ce, st, Z, hce, hcl', hv⟩ := zNatAt Y hexec htr (cls := "java/lang/ArrayIndexOutOfBoundsException") (names := names) (text := "arraycopy: " ++ what) hcls hnames hsoe hoom (vx_own hat' (vx_isRefq hU'.1) (vx_isRefq hN'.1) hU'.2.word hN'.2.word) (fun x hx => nomatch hx) htext
    (by rw [Launch.admits_arrayLengthLimit X.admits]; omega) (by rw [Launch.admits_maxHeapBytes X.admits]; simp only [componentBytes]; omega)
    (g := F0 m pc ls rest) rfl hml.symm (nf := { method := r, args := #[.ref src, .int sp, .ref dst, .int dp, .int n], locked := none }) rfl rfl rfl hRframes (by show 2 * 0 + (rest.map fun v => v.category).sum + 10240 ≤ R.locals; omega) hshort (by show 0 + 3 ≤ 3; omega) (by show 0 + (_ + 4 + 6) ≤ nb + 10; omega)
  obtain ⟨f1, f2⟩ := vx_frame Z.same
  have f1' : H.size ≤ S.heap.size := by rw [← hT]; exact f1
  have f2' : ∀ q : Nat, q < H.size → S.heap[q]? = H[q]? := fun q hq => by
    rw [← hT]
    exact f2 q (by rw [← hT] at hq; exact hq) (fun z hz => nomatch hz)
  have X5 := vx_back9 X Y Z
  have X6 : Stand p l e R s m args below meth c S locs (cells + 3) (slots + (nb + 10)) := { X5 with same := X5.same.mono (by omega) (by omega) }
  obtain ⟨t, a1, b1⟩ := k S.heap q ce f1' f2' ⟨Nat.le_trans hS.1 f1', fun q h1 h2 => (f2' q (Nat.lt_of_lt_of_le h1 hS.1)).trans (hS.2.1 q h1 h2), hS.2.2⟩ hce hv hcl' S rfl X6
  refine ⟨t, step t (fun acts => ?_), b1⟩
  obtain ⟨g₀, hfr⟩ := X.frames_eq
  have hseen : seenByNative methS #[.ref src, .int sp, .ref dst, .int dp, .int n] = #[.ref src, .int sp, .ref dst, .int dp, .int n] := by
    simp [seenByNative, N'.static, N'.sig, narrow]
  have hcurT : T.cur < T.threads.size := State.cur_lt_of_frames hfr
  have h9 := X.here
  refine Steps.nativeThrowsNote (g := F0 m pc ls rest) (row := arraycopyRow) (cls := "java/lang/ArrayIndexOutOfBoundsException") (msg := some ("arraycopy: " ++ what)) (T := fun u => u) h9 acts (by rw [hvm]; exact N'.cls) N'.meth N'.boot N'.native N'.noCode N'.noLock
    (by rw [N'.className, N'.name, N'.desc]; exact arraycopy_row p)
    (by rw [N'.className, N'.name]; exact X.notFull (g := F0 m pc ls rest) hml.symm (vars := nativeFrameWords "java/lang/System" "arraycopy" 5) (by omega) (by
      have h8 : nativeFrameWords "java/lang/System" "arraycopy" 5 ≤ 1000 := by decide +kernel
      show 2 * 0 + (rest.map fun v => v.category).sum + (_ + 11) ≤ R.locals
      omega)) ?_ ?_
  · intro E hE
    rw [hseen] at hE ⊢
    rw [arraycopyRow_sem]
    exact Jvm.W.arraycopy_bounds (cs := cs) (cd := cd) (ks := ks') (kd := kd') hsT hdT hsobj hdobj (by show T.vm.classes[cs.cls]? = _; rw [hvm]; exact hks') (by show T.vm.classes[cd.cls]? = _; rw [hvm]; exact hkd') (by rw [hes]; exact hsk) (by rw [hed]; exact hdk) hty hf (hE _)
  · have hU9 : (T.setTop (F0 m pc ls rest)).pushFrame (.native { method := r, args := #[.ref src, .int sp, .ref dst, .int dp, .int n], locked := none }) = T.setFrames (.native { method := r, args := #[.ref src, .int sp, .ref dst, .int dp, .int n], locked := none } :: .java (F0 m pc ls rest) :: below) := by
      rw [State.pushFrame, State.frames_setTop _ hfr, State.setTop_of_frames _ hfr, State.setFrames_setFrames]
    rw [hseen]
    show Steps p.tables e below (((T.setTop (F0 m pc ls rest)).pushFrame (.native { method := r, args := #[.ref src, .int sp, .ref dst, .int dp, .int n], locked := none })).pushFrame _) t
    rw [hU9, State.pushFrame, State.frames_setFrames _ hcurT, State.setFrames_setFrames]
    exact st t a1
end ZOW
/-! its text -/
theorem zInt_print {x : Int} (h0 : 0 ≤ x) (h1 : x < 10 ^ 10) : (toString x).toList.length ≤ 10 := by
  obtain ⟨m, rfl⟩ := Int.eq_ofNat_of_zero_le h0
  exact nat_print (n := m) (by omega)
def zTyK (k : Nat) : FieldType := match k with
  | 1 => .int
  | 2 => .byte
  | 3 => .short
  | _ => .long
theorem zKn_len {k : Nat} : (Native.java_lang_System.arraycopy.kindName (zTyK k)).toList.length ≤ 5 := by
  unfold zTyK
  split <;> decide
theorem zFault {k nA nB : Nat} {sp dp n : Int} (hs : inI sp) (hd : inI dp) (hn : inI n) (s0 : 0 ≤ sp) (d0 : 0 ≤ dp) (n0 : 0 ≤ n) (hA : nA < 2 ^ 31) (hB : nB < 2 ^ 31) (h : ¬ (sp + n ≤ (nA : Int) ∧ dp + n ≤ (nB : Int))) : ∃ what, copyFault (zTyK k) (zTyK k) nA nB (Int32.ofInt sp) (Int32.ofInt dp) (Int32.ofInt n) = some what ∧ what.toList.length ≤ 75 := by
  unfold copyFault
  rw [if_neg ((ofI_neg hs).mpr s0), if_neg ((ofI_neg hd).mpr d0), if_neg ((ofI_neg hn).mpr n0), ofI_to hs, ofI_to hd, ofI_to hn]
  have b1 := zKn_len (k := k)
  have hu : inI sp ∧ inI dp ∧ inI n := ⟨hs, hd, hn⟩
  unfold inI at hu
  by_cases e : sp + n > (nA : Int)
  · rw [if_pos e]
    refine ⟨_, rfl, ?_⟩
    show (toString "last source index " ++ toString (sp + n) ++ toString " out of bounds for " ++ toString (toString (Native.java_lang_System.arraycopy.kindName (zTyK k)) ++ toString "[" ++ toString nA ++ toString "]")).toList.length ≤ 75
    simp only [String.toList_append, List.length_append]
    have a1 : (toString "last source index ").toList.length = 18 := by decide
    have a2 : (toString " out of bounds for ").toList.length = 19 := by decide
    have a3 := zInt_print (x := sp + n) (by omega) (by omega)
    have a4 := nat_print (n := nA) (by omega)
    have a5 : (toString "[").toList.length = 1 := by decide
    have a6 : (toString "]").toList.length = 1 := by decide
    have a7 : (toString (toString (Native.java_lang_System.arraycopy.kindName (zTyK k)) ++ toString "[" ++ toString nA ++ toString "]")).toList.length ≤ 17 := by
      show (toString (Native.java_lang_System.arraycopy.kindName (zTyK k)) ++ toString "[" ++ toString nA ++ toString "]").toList.length ≤ 17
      simp only [String.toList_append, List.length_append]
      have a8 : (toString (Native.java_lang_System.arraycopy.kindName (zTyK k))).toList.length ≤ 5 := b1
      omega
    omega
  · rw [if_neg e, if_pos (by omega)]
    refine ⟨_, rfl, ?_⟩
    show (toString "last destination index " ++ toString (dp + n) ++ toString " out of bounds for " ++ toString (toString (Native.java_lang_System.arraycopy.kindName (zTyK k)) ++ toString "[" ++ toString nB ++ toString "]")).toList.length ≤ 75
    simp only [String.toList_append, List.length_append]
    have a1 : (toString "last destination index ").toList.length = 23 := by decide
    have a2 : (toString " out of bounds for ").toList.length = 19 := by decide
    have a3 := zInt_print (x := dp + n) (by omega) (by omega)
    have a4 := nat_print (n := nB) (by omega)
    have a5 : (toString "[").toList.length = 1 := by decide
    have a6 : (toString "]").toList.length = 1 := by decide
    have a7 : (toString (toString (Native.java_lang_System.arraycopy.kindName (zTyK k)) ++ toString "[" ++ toString nB ++ toString "]")).toList.length ≤ 17 := by
      show (toString (Native.java_lang_System.arraycopy.kindName (zTyK k)) ++ toString "[" ++ toString nB ++ toString "]").toList.length ≤ 17
      simp only [String.toList_append, List.length_append]
      have a8 : (toString (Native.java_lang_System.arraycopy.kindName (zTyK k))).toList.length ≤ 5 := b1
      omega
    omega
theorem zCpy_text {what : String} (h : what.toList.length ≤ 75) : (("arraycopy: " ++ what) == notModelled) = false ∧ (stringBytes (stringToUtf16 ("arraycopy: " ++ what))).size ≤ 390 := by
  constructor
  · rw [beq_eq_false_iff_ne]
    intro h
    have h2 := congrArg String.toList h
    have h3 : ("arraycopy: " ++ what).toList = 'a' :: ("rraycopy: ".toList ++ what.toList) := by
      rw [String.toList_append]
      rfl
    rw [h3] at h2
    have h4 : notModelled.toList = '\u0000' :: " a message that is not modelled".toList := by decide
    rw [h4] at h2
    simp at h2
  · have b1 := stringBytes_size_le (stringToUtf16 ("arraycopy: " ++ what))
    have b2 := utf16_size_le ("arraycopy: " ++ what)
    have b3 : ("arraycopy: " ++ what).toList.length ≤ 86 := by
      rw [String.toList_append, List.length_append]
      have a1 : "arraycopy: ".toList.length = 11 := by decide
      omega
    omega
section ZOY
variable {p : Program} {l : Launch} {e : Env} {R : Room} {s : State} {m : MethodId} {args : Array Value} {below : List Frame} {meth : Method} {c : Code} {H : Heap} {locs : List Loc} {cells slots : Nat} {Q : State → Prop}
variable {D : va_G} {A : Nat → Prop} {fz : Nat → Nat} {xs : Nat → Int32} {L : Nat} {ρ : Nat → Nat} {ws : va_W} {tys : List (ClassId × FieldType)} {h h' : zHp}
variable {M : zMi} {pc : Nat} {st st' rest : List zAv} {lr : Array Slot} {len : Nat}
theorem zRel_kp (r : zRel D s A fz xs L H ρ ws tys h) {H1 : Heap} (hq : ∀ q : Nat, q < H.size → H1[q]? = H[q]?) : zRel D s A fz xs L H1 ρ ws tys h := by
  obtain ⟨r1, r2, r3, r4, r5, r6, r7⟩ := r
  exact ⟨r1, fun k q hk => (r2 k q hk).kept (hq _ (vx_lt r2 hk)), r3, r4, r5, r6, r7⟩
theorem zArr_at (r : zRel D s A fz xs L H ρ ws tys h) {a k : Nat} (h1 : zkc ≤ a) (h2 : a < gN h) (hk : (gK h a).1 = k) (k1 : 1 ≤ k) (k4 : k ≤ 4) : ∃ (cell : Cell) (kA : Class) (comp : ClassId), H[ρ a]? = some cell ∧ (∀ q, cell.vm ≠ .statics q) ∧ s.vm.classes[cell.cls]? = some kA ∧ kA.kind = .array comp (zTyK k) ∧ cell.slots.size = (gK h a).2 := by
  obtain ⟨e9, he, hc⟩ := zRel_at r h1 h2
  have hP := r.2.1 _ _ he
  have hk2 := zK_of hk
  match k, k1, k4, hk2 with
  | 1, _, _, hk2 =>
    obtain ⟨cA, f, rfl, ht, -⟩ := hc.2.1 _ hk2
    obtain ⟨t0, ht0⟩ := mem_at ht
    obtain ⟨-, k0, hk0, cm0, hkk0⟩ := (r.1.2 t0 _ ht0).1 (gK h a).2 (fun j => .int (f j))
    exact ⟨_, k0, cm0, hP, (fun _ h => by cases h), hk0, hkk0, arrV_size _ _ _⟩
  | 2, _, _, hk2 =>
    obtain ⟨cA, f, rfl, ht, -⟩ := hc.2.2.1 _ hk2
    obtain ⟨t0, ht0⟩ := mem_at ht
    obtain ⟨-, k0, hk0, cm0, hkk0⟩ := (r.1.2 t0 _ ht0).1 (gK h a).2 (fun j => .int (f j))
    exact ⟨_, k0, cm0, hP, (fun _ h => by cases h), hk0, hkk0, arrV_size _ _ _⟩
  | 3, _, _, hk2 =>
    obtain ⟨cA, f, rfl, ht, -⟩ := hc.2.2.2.1 _ hk2
    obtain ⟨t0, ht0⟩ := mem_at ht
    obtain ⟨-, k0, hk0, cm0, hkk0⟩ := (r.1.2 t0 _ ht0).1 (gK h a).2 (fun j => .int (f j))
    exact ⟨_, k0, cm0, hP, (fun _ h => by cases h), hk0, hkk0, arrV_size _ _ _⟩
  | 4, _, _, hk2 =>
    obtain ⟨cA, f, rfl, ht, -⟩ := hc.2.2.2.2.1 _ hk2
    obtain ⟨t0, ht0⟩ := mem_at ht
    obtain ⟨-, k0, hk0, cm0, hkk0⟩ := (r.1.2 t0 _ ht0).1 (gK h a).2 (fun j => .long (f j))
    exact ⟨_, k0, cm0, hP, (fun _ h => by cases h), hk0, hkk0, arrV_size _ _ _⟩
theorem zS_cki (X : zCtx M p s m args meth c) (r : zRel D s A fz xs L H ρ ws tys h) (hf : zFz fz xs L A s s.heap) (hS : va_S A s.heap H locs) (hRF : 16 ≤ R.frames) (hRL : 12000 ≤ R.locals) (hcl : cells ≤ R.cells) (hsl : slots ≤ R.slots) (hls : lr.size = mLoc M) {x : Nat} {i n : Int} (hdg : decode (mCode M) pc = .ok (.invokestatic x, 3)) (hq : zNat (mCls M) x = some 3) (hw : zWt rest ≤ 8) (h0 : 0 ≤ i) (hn : i < n) (ho : ∀ v9 ∈ Sum.inl n :: Sum.inl i :: rest, zOk (gN h) v9)
    (kk : zKk p l e R s m args below meth c cells slots Q D A fz xs L ρ h h rest (F0 m (pc + 3) lr)) : W p l e R s m args below meth c H locs cells slots Q (F0 m pc lr ((Sum.inl n :: Sum.inl i :: rest).map (zv ρ))) := by
  obtain ⟨x1, x2, x3, x4, x5, x6, -⟩ := X
  obtain ⟨u, e1, e2⟩ := zLk2_mem hq
  obtain ⟨y, f1, f2⟩ := zYF _ e1 _ e2
  dsimp only at f1 f2
  cases f1
  obtain ⟨-, -, -, -, -, -, -, -, -, f10⟩ := hf
  have hi : inI i := ok_hd (ok_tl ho)
  have hn' : inI n := ok_hd ho
  obtain ⟨f, hf0, hZ⟩ : ∃ f, (f = Value.null ∨ ∃ t : Nat, f = .ref t) ∧ va_Z zPreC zSioN zSioD f A s s.heap := f10.elim (fun h => ⟨_, Or.inl rfl, h⟩) (fun ⟨t, h⟩ => ⟨_, Or.inr ⟨t, rfl⟩, h⟩)
  have h0' : ¬ Int32.ofInt i < 0 := (ofI_neg hi).mpr h0
  have h1' : Int32.ofInt i < Int32.ofInt n := (ofI_lt hi hn').mpr hn
  refine va_callv (va_runS (As := [.int (Int32.ofInt i), .int (Int32.ofInt n)]) (rest := rest.map (zv ρ)) ⟨x1, x2, x3, x4, x5⟩ (zCki2 l _ _ f hf0 h0' h1') (va_cwS 2 x5 (lw_S f2 q742 q187 q743) rfl rfl rfl (by decide +kernel) ⟨by show 3 + 1 ≤ _; omega, by show 8 + (2 + 11) + 60 ≤ _; omega⟩) ⟨fun a U g mk q => ⟨q.1, va_Z.moved (u := U) (U := U.calling g mk a) (Vm.Alike.refl U.vm) q.2⟩, fun U hU hW => ⟨rfl, show va_Z zPreC zSioN zSioD f (fun _ => False) U U.heap by rw [hU]; exact va_Z.moved hW.alike ((hZ.kept hS.2.1).narrow (fun q h => h.elim))⟩⟩ rfl rfl hls rfl (lv_room (by rw [zWt_eq]; exact hw)) hdg ⟨by omega, by omega⟩) hS (fun q _ h => h.elim) (fun q h => h.elim) (fun u9 t H1 locs1 ht hv9 _ _ hz hk hS1 => ?_)
  exact zKk_same kk rfl rfl rfl (zRel_kp r (fun q hq => hk q hq (fun h => h))) hS1 (ok_tl (ok_tl ho))
theorem zS_exc (X : zCtx M p s m args meth c) (r : zRel D s A fz xs L H ρ ws tys h) (hf : zFz fz xs L A s s.heap) (hS : va_S A s.heap H locs) (hRF : 16 ≤ R.frames) (hRL : 12000 ≤ R.locals) (hcl : cells ≤ R.cells) (hsl : slots ≤ R.slots) (hls : lr.size = mLoc M) {x a : Nat} {y z : Int} (hdg : decode (mCode M) pc = .ok (.invokespecial x, 3)) (hq : zNat (mCls M) x = some 1) (hk : zWt rest ≤ 8 ∧ y = 0 ∧ z = 0 ∧ zkc ≤ a ∧ (gK h a).1 = 0 ∧ zExc (gK h a).2 = true) (ho : ∀ v9 ∈ Sum.inl y :: Sum.inl z :: Sum.inr (Sum.inr none) :: Sum.inr (Sum.inr none) :: Sum.inr (Sum.inr (some a)) :: rest, zOk (gN h) v9)
    (kk : zKk p l e R s m args below meth c cells slots Q D A fz xs L ρ h h rest (F0 m (pc + 3) lr)) : W p l e R s m args below meth c H locs cells slots Q (F0 m pc lr ((Sum.inl y :: Sum.inl z :: Sum.inr (Sum.inr none) :: Sum.inr (Sum.inr none) :: Sum.inr (Sum.inr (some a)) :: rest).map (zv ρ))) := by
  obtain ⟨x1, x2, x3, x4, x5, x6, -⟩ := X
  obtain ⟨u, e1, e2⟩ := zLk2_mem hq
  obtain ⟨y9, f1, f2⟩ := zYF _ e1 _ e2
  dsimp only at f1 f2
  cases f1
  obtain ⟨-, -, -, -, -, -, -, f8, f9, -⟩ := hf
  obtain ⟨hw, rfl, rfl, hza, hka, hea⟩ := hk
  have hok := ok_tl (ok_tl (ok_tl (ok_tl ho)))
  have hlt : a < gN h := ok_hd hok
  obtain ⟨e9, he, hc⟩ := zRel_at r hza hlt
  have hAa : A (ρ a) := r.2.2.1.2 _ _ he
  have hU : ∀ U : State, U.heap = H → s.WarmedH U.vm → va_Zq Bundle.tN "UNASSIGNED_STACK" Bundle.steD (fun q => q = ρ a) U U.heap := fun U hU hW => by rw [hU]; exact va_Zq.moved hW.alike ((f8.1.kept hS.2.1).narrow (fun q h => by rw [h]; exact hAa))
  have hN : ∀ U : State, U.heap = H → s.WarmedH U.vm → va_Zq Bundle.tN "SUPPRESSED_SENTINEL" Bundle.listD (fun q => q = ρ a) U U.heap := fun U hU hW => by rw [hU]; exact va_Zq.moved hW.alike ((f9.1.kept hS.2.1).narrow (fun q h => by rw [h]; exact hAa))
  have he2 : (gK h a).2 = 2 ∨ (gK h a).2 = 3 := by
    have h5 : (Nat.beq (gK h a).2 2 || Nat.beq (gK h a).2 3) = true := hea
    rw [Bool.or_eq_true] at h5
    exact h5.imp Nat.eq_of_beq_eq_true Nat.eq_of_beq_eq_true
  have hkk := zK_of hka
  have fin : ∀ (ci : Nat) (r9 : vw_C × (Nat → FieldType) × Nat) (fs gs : List Value) (H1 : Heap) (locs1 : List Loc), gK h a = (0, ci) → zCls[ci]? = some r9 → 6 ≤ r9.2.2 → e9 = .inr (ci, fs) → fs.length = r9.1.2.2 → (∀ j, r9.2.2 ≤ j → j < r9.1.2.2 → fs[j]? = some (zFv ρ h a j (r9.2.1 j))) → gs.length = r9.1.2.2 → (∀ j, 6 ≤ j → gs[j]? = fs[j]?) → va_P D zcl [(ρ a, .inr (ci, gs))] H1 → (∀ q : Nat, q < H.size → ¬ q = ρ a → H1[q]? = H[q]?) → va_S A s.heap H1 locs1 → W p l e R s m args below meth c H1 locs1 cells slots Q (F0 m (pc + 3) lr (rest.map (zv ρ))) := fun ci r9 fs gs H1 locs1 g0 g1 g6 g2 g3 g4 g5 g7 hB hk9 hS1 => by
    subst g2
    have hl9 : a - zkc < ws.length := (List.getElem?_eq_some_iff.mp he).1
    have hP1 : va_P D zcl (ws.set (a - zkc) (ρ a, .inr (ci, gs))) H1 := fun k q hq => by
      by_cases ek : k = a - zkc
      · subst ek
        rw [List.getElem?_set_self hl9] at hq
        cases hq
        exact hB 0 _ rfl
      · rw [List.getElem?_set_ne (fun h9 => ek h9.symm)] at hq
        exact (r.2.1 k q hq).kept (hk9 _ (vx_lt r.2.1 hq) (fun h9 => ek (r.2.2.1.1 _ _ _ _ hq he h9)))
    refine zKk_same kk rfl rfl rfl (zRel_set r hza (h' := h) rfl rfl (fun _ _ => rfl) (fun _ _ => rfl) (fun _ _ => rfl) hP1 (r.2.2.1.set he) ?_ r.2.2.2.2.2.1) hS1 (ok_tl hok)
    refine ⟨fun c9 q9 => ?_, fun n q9 => ?_, fun n q9 => ?_, fun n q9 => ?_, fun n q9 => ?_, fun k n k5 q9 => ?_⟩
    · rw [g0] at q9
      cases q9
      exact ⟨r9, gs, g1, rfl, g5, fun j j1 j2 => by rw [g7 j (by omega)]; exact g4 j j1 j2⟩
    · rw [g0] at q9; cases q9
    · rw [g0] at q9; cases q9
    · rw [g0] at q9; cases q9
    · rw [g0] at q9; cases q9
    · rw [g0] at q9; cases q9; omega
  rcases he2 with e2 | e2
  · have g0 : gK h a = (0, 2) := by rw [hkk, e2]
    obtain ⟨r9, fs, g1, g2, g3, g4⟩ := hc.1 _ g0
    have g1' := g1
    cases Option.some.inj g1
    have hPs : va_P D zcl [(ρ a, .inr (2, fs))] H := fun k q hq => by
      match k, hq with
      | 0, hq => cases hq; rw [← g2]; exact r.2.1 _ _ he
      | k + 1, hq => cases hq
    refine va_callv (va_runI (As := [.null, .null, .int 0, .int 0]) (rest := rest.map (zv ρ)) ⟨x1, x2, x3, x4, x5⟩ (zExc4_X2 l D tys (ρ a) fs g3) (cwI 4 x5 (lw_meth q273) rfl rfl rfl (x5 _ q179) (x5 _ f2) (x5 _ q272) rfl (by decide +kernel) ⟨by show 4 + 1 ≤ _; omega, by show 8 + (5 + 11) + 80 ≤ _; omega⟩) ⟨fun a U g mk q => by obtain ⟨q0, qP, qK, qU, qN⟩ := q; exact ⟨q0, qP, va_K.moved (u := U) (U := U.calling g mk a) (Vm.Alike.refl U.vm) qK, va_Zq.moved (u := U) (U := U.calling g mk a) (Vm.Alike.refl U.vm) qU, va_Zq.moved (u := U) (U := U.calling g mk a) (Vm.Alike.refl U.vm) qN⟩, fun U hU9 hW => ⟨rfl, by rw [hU9]; exact hPs, va_K.moved hW.alike r.1, hU U hU9 hW, hN U hU9 hW⟩⟩ rfl rfl hls rfl (lv_room (by rw [zWt_eq]; exact hw)) hdg ⟨by omega, by omega⟩) hS (fun q _ h => by rw [h]; exact hAa) (fun q h => by rw [h]; exact hAa) (fun gs t H1 locs1 ht hv9 hpost hB hz hk9 hS1 => ?_)
    exact fin 2 _ fs gs H1 locs1 g0 g1' (by decide) g2 g3 g4 hpost.1 hpost.2 (by rw [← ht]; exact hB) hk9 hS1
  · have g0 : gK h a = (0, 3) := by rw [hkk, e2]
    obtain ⟨r9, fs, g1, g2, g3, g4⟩ := hc.1 _ g0
    have g1' := g1
    cases Option.some.inj g1
    have hPs : va_P D zcl [(ρ a, .inr (3, fs))] H := fun k q hq => by
      match k, hq with
      | 0, hq => cases hq; rw [← g2]; exact r.2.1 _ _ he
      | k + 1, hq => cases hq
    refine va_callv (va_runI (As := [.null, .null, .int 0, .int 0]) (rest := rest.map (zv ρ)) ⟨x1, x2, x3, x4, x5⟩ (zExc4_X3 l D tys (ρ a) fs g3) (cwI 4 x5 (lw_meth q273) rfl rfl rfl (x5 _ q179) (x5 _ f2) (x5 _ q272) rfl (by decide +kernel) ⟨by show 4 + 1 ≤ _; omega, by show 8 + (5 + 11) + 80 ≤ _; omega⟩) ⟨fun a U g mk q => by obtain ⟨q0, qP, qK, qU, qN⟩ := q; exact ⟨q0, qP, va_K.moved (u := U) (U := U.calling g mk a) (Vm.Alike.refl U.vm) qK, va_Zq.moved (u := U) (U := U.calling g mk a) (Vm.Alike.refl U.vm) qU, va_Zq.moved (u := U) (U := U.calling g mk a) (Vm.Alike.refl U.vm) qN⟩, fun U hU9 hW => ⟨rfl, by rw [hU9]; exact hPs, va_K.moved hW.alike r.1, hU U hU9 hW, hN U hU9 hW⟩⟩ rfl rfl hls rfl (lv_room (by rw [zWt_eq]; exact hw)) hdg ⟨by omega, by omega⟩) hS (fun q _ h => by rw [h]; exact hAa) (fun q h => by rw [h]; exact hAa) (fun gs t H1 locs1 ht hv9 hpost hB hz hk9 hS1 => ?_)
    exact fin 3 _ fs gs H1 locs1 g0 g1' (by decide) g2 g3 g4 hpost.1 hpost.2 (by rw [← ht]; exact hB) hk9 hS1
theorem zS_cpyZ (X : zCtx M p s m args meth c) (r : zRel D s A fz xs L H ρ ws tys h) (hf : zFz fz xs L A s s.heap) (hS : va_S A s.heap H locs) (hst : l.stackTraces = false) (hRF : 16 ≤ R.frames) (hRL : 12000 ≤ R.locals) (hcl : cells + 3 ≤ R.cells) (hsl : slots + 400 ≤ R.slots) (hls : lr.size = mLoc M) {x a b : Nat} {sp dp n : Int} (hdg : decode (mCode M) pc = .ok (.invokestatic x, 3)) (hq : zNat (mCls M) x = some 2) (hw : zWt rest ≤ 8) (hok : zCpOk h a sp b dp n) (hk : (gK h a).1 ≤ 4) (hci : ¬ zCpIn h a sp b dp n) (ho : ∀ v ∈ Sum.inl n :: Sum.inl dp :: Sum.inr (Sum.inr (some b)) :: Sum.inl sp :: Sum.inr (Sum.inr (some a)) :: rest, zOk (gN h) v)
    (kk : zTk p l e R s m args below meth c cells slots Q D A fz xs L ρ ws tys locs h 31 pc lr) : W p l e R s m args below meth c H locs cells slots Q (F0 m pc lr ((Sum.inl n :: Sum.inl dp :: Sum.inr (Sum.inr (some b)) :: Sum.inl sp :: Sum.inr (Sum.inr (some a)) :: rest).map (zv ρ))) := by
  obtain ⟨x1, x2, x3, x4, x5, x6, x7, x8, x9, x10, x11⟩ := X
  obtain ⟨u, e1, e2⟩ := zLk2_mem hq
  obtain ⟨y, f1, f2⟩ := zYF _ e1 _ e2
  dsimp only at f1 f2
  cases f1
  obtain ⟨-, -, -, -, -, -, -, f8, f9, -⟩ := hf
  obtain ⟨hza, hzb, hk1, hkk, hs0, hd0, hn0⟩ := hok
  have ho1 := ok_tl ho
  have ho2 := ok_tl ho1
  have ho3 := ok_tl ho2
  have ho4 := ok_tl ho3
  have hin : inI n := ok_hd ho
  have hid : inI dp := ok_hd ho1
  have his : inI sp := ok_hd ho3
  have hb : ∀ w, (w ∈ lw_all ∨ (w ∈ lw_nw ∧ w.onTables = true)) → w.before args s = true := fun w hw => hw.elim (x5 w) (fun h => va_tabs h.2 rfl (x6 w h.1))
  obtain ⟨cs, ks, sc, c1, c2, c3, c4, c5⟩ := zArr_at r hza (ok_hd ho4) rfl hk1 hk
  obtain ⟨cd, kd, dc, d1, d2, d3, d4, d5⟩ := zArr_at r hzb (ok_hd ho2) hkk.symm hk1 hk
  obtain ⟨what, w1, w2⟩ := zFault (k := (gK h a).1) (nA := (gK h a).2) (nB := (gK h b).2) his hid hin hs0 hd0 hn0 (r.2.2.2.2.2.1.1.2 a) (r.2.2.2.2.2.1.1.2 b) hci
  obtain ⟨t1, t2⟩ := zCpy_text w2
  have hty : ((refKind (zTyK (gK h a).1) != refKind (zTyK (gK h a).1)) || (!refKind (zTyK (gK h a).1) && zTyK (gK h a).1 != zTyK (gK h a).1)) = false := by
    unfold zTyK
    split <;> rfl
  refine zCpyT (cls := "java/lang/ArrayIndexOutOfBoundsException") (what := what) (names := zUp31) (nb := 390) (A := A) x1 x2 (x3.trans hls.symm) x4 (x5 _ f2) (x5 _ q650) (x5 _ q649) (x5 _ q190) hst rfl (by decide +kernel) (by decide +kernel) (by decide +kernel) (by decide +kernel) (fun w hw => hb w (of_decide_eq_true (List.all_eq_true.mp zMA31 w hw))) (fun w hw => List.all_eq_true.mp zMO31 w hw) f8 f9 hS t1 t2 (by decide) (by show 3 + 5 < _; omega) (by rw [zWt_eq]; omega) (by decide) hcl hsl c1 d1 c2 d2 c3 d3 c4 d4 hty (by rw [c5, d5]; exact w1) hdg (fun H1 q9 ce g1 g2 g3 g4 g5 g6 => kk H1 q9 ce _ (zRel_grow r g2 3 400) g3 g4 g5 g6)
end ZOY
