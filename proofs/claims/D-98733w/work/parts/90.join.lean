/-! ===== THE JOIN: the law's run over the abstract heap is the machine's ===== -/
set_option maxRecDepth 100000
/-- the heap at the law's start: the script, the texts -/
def zH0 (xs : Nat → Int32) (L : Nat) : zHp := ((65, 0, 0), (fun a => if a < 65 then zK0 L a else (1000, 0)), (fun a => if a < 65 then zI0 xs a else fun _ => 0), (fun _ _ => 0), (fun a => if a < 65 then zR0 a else fun _ => none))
/-- what is given of one text -/
def zDjc (r : String × Nat × String × List Int) : List Jvm.Cond := Cond.exactly (.string r.1 r.2.1) "java/lang/String" :: Cond.eq (.field (.string r.1 r.2.1) "java/lang/String" "coder" "B") (.int 0) :: Cond.arrayOf (.field (.string r.1 r.2.1) "java/lang/String" "value" "[B") .byte :: Cond.eq (.length (.field (.string r.1 r.2.1) "java/lang/String" "value" "[B")) (.int (Int32.ofNat r.2.2.2.length)) :: (List.range r.2.2.2.length).map (fun j => Cond.eq (.elem (.field (.string r.1 r.2.1) "java/lang/String" "value" "[B") (.int (Int32.ofNat j))) (.int (Int32.ofInt (r.2.2.2.getD j 0))))
theorem zJm_all : (flatC (Jvm.Cond.and given_1 narrow_1)).drop 323 = zStr.flatMap zDjc := by decide +kernel
theorem zJm_in : ∀ i, i < 32 → zTx i ∈ zStr := by decide +kernel
theorem zJm_of {i : Nat} (hi : i < 32) {c : Jvm.Cond} (hc : c ∈ zDjc (zTx i)) : c ∈ flatC (Jvm.Cond.and given_1 narrow_1) := by
  refine List.mem_of_mem_drop (i := 323) ?_
  rw [zJm_all]
  exact List.mem_flatMap.mpr ⟨_, zJm_in i hi, hc⟩
theorem zJm_ex (i : Nat) (hi : i < 32) : (Cond.exactly (.string (zTx i).1 (zTx i).2.1) "java/lang/String") ∈ flatC (Jvm.Cond.and given_1 narrow_1) := zJm_of hi List.mem_cons_self
theorem zJm_co (i : Nat) (hi : i < 32) : (Cond.eq (.field (.string (zTx i).1 (zTx i).2.1) "java/lang/String" "coder" "B") (.int 0)) ∈ flatC (Jvm.Cond.and given_1 narrow_1) := zJm_of hi (List.mem_cons_of_mem _ List.mem_cons_self)
theorem zJm_ar (i : Nat) (hi : i < 32) : (Cond.arrayOf (.field (.string (zTx i).1 (zTx i).2.1) "java/lang/String" "value" "[B") .byte) ∈ flatC (Jvm.Cond.and given_1 narrow_1) := zJm_of hi (List.mem_cons_of_mem _ (List.mem_cons_of_mem _ List.mem_cons_self))
theorem zJm_le (i : Nat) (hi : i < 32) : (Cond.eq (.length (.field (.string (zTx i).1 (zTx i).2.1) "java/lang/String" "value" "[B")) (.int (Int32.ofNat (zTx i).2.2.2.length))) ∈ flatC (Jvm.Cond.and given_1 narrow_1) := zJm_of hi (List.mem_cons_of_mem _ (List.mem_cons_of_mem _ (List.mem_cons_of_mem _ List.mem_cons_self)))
theorem zJm_el (i : Nat) (hi : i < 32) (j : Nat) (hj : j < (zTx i).2.2.2.length) : (Cond.eq (.elem (.field (.string (zTx i).1 (zTx i).2.1) "java/lang/String" "value" "[B") (.int (Int32.ofNat j))) (.int (Int32.ofInt ((zTx i).2.2.2.getD j 0)))) ∈ flatC (Jvm.Cond.and given_1 narrow_1) := zJm_of hi (List.mem_cons_of_mem _ (List.mem_cons_of_mem _ (List.mem_cons_of_mem _ (List.mem_cons_of_mem _ (List.mem_map.mpr ⟨j, List.mem_range.mpr hj, rfl⟩)))))
theorem zJm_sr : ∀ i, i < 32 → (Cond.stringRef (zTx i).1 (zTx i).2.1 (zTx i).2.2.1) ∈ lw_tbl := by decide +kernel
theorem zJm_nl : ∀ i, i < 32 → (zTx i).2.2.2.length < 200 := by decide +kernel
theorem zJm_bl : ∀ i, i < 32 → (zTx i).2.2.2.all (fun x => decide (-128 ≤ x ∧ x ≤ 127)) = true := by decide +kernel
theorem zJm_by (i : Nat) (hi : i < 32) (j : Nat) : -128 ≤ (zTx i).2.2.2.getD j 0 ∧ (zTx i).2.2.2.getD j 0 ≤ 127 := by
  have h9 := zJm_bl i hi
  rw [List.getD_eq_getElem?_getD]
  by_cases hj : j < (zTx i).2.2.2.length
  · rw [List.getElem?_eq_getElem hj]
    exact of_decide_eq_true (List.all_eq_true.mp h9 _ (List.getElem_mem hj))
  · rw [List.getElem?_eq_none (by omega)]
    show -128 ≤ (0 : Int) ∧ (0 : Int) ≤ 127
    decide
theorem zJm_nc : ∀ q ∈ zNcT, (Cond.not (.castable q.1 q.2)) ∈ flatC (Jvm.Cond.and given_1 narrow_1) := by decide +kernel
theorem zJm_1 : (Cond.eq (.static "java/lang/String" "COMPACT_STRINGS" "Z") (.int 1)) ∈ flatC (Jvm.Cond.and given_1 narrow_1) := by decide +kernel
theorem zJm_2 : (Cond.isRef (.static Bundle.tN "UNASSIGNED_STACK" Bundle.steD)) ∈ flatC (Jvm.Cond.and given_1 narrow_1) := by decide +kernel
theorem zJm_3 : (Cond.isRef (.static Bundle.tN "SUPPRESSED_SENTINEL" Bundle.listD)) ∈ flatC (Jvm.Cond.and given_1 narrow_1) := by decide +kernel
theorem zJm_4 : (Cond.isRef (.static "jdk/internal/util/Preconditions" "SIOOBE_FORMATTER" "Ljava/util/function/BiFunction;")) ∈ flatC (Jvm.Cond.and given_1 narrow_1) := by decide +kernel
theorem zJm_5 : (Cond.laysStatic "java/lang/String" "COMPACT_STRINGS" "Z") ∈ lw_tbl ∧ (Cond.initialized "java/lang/String") ∈ lw_tbl ∧ (Cond.laysStatic Bundle.tN "UNASSIGNED_STACK" Bundle.steD) ∈ lw_tbl ∧ (Cond.initialized Bundle.tN) ∈ lw_tbl ∧ (Cond.laysStatic Bundle.tN "SUPPRESSED_SENTINEL" Bundle.listD) ∈ lw_tbl ∧ (Cond.laysStatic "jdk/internal/util/Preconditions" "SIOOBE_FORMATTER" "Ljava/util/function/BiFunction;") ∈ lw_tbl ∧ (Cond.initialized "jdk/internal/util/Preconditions") ∈ lw_tbl := by decide +kernel
theorem zJ_texts {b : Nat} {s : State} {A : Nat → Prop} (hgv : (Jvm.Cond.and given_1 narrow_1).before #[Value.ref b] s = true) (hts : ∀ w ∈ lw_tbl, w.before #[Value.ref b] s = true) (hA : ∀ a : Nat, a < s.heap.size → ¬ A a) : ∃ ad : Nat → Nat × Nat, ∀ i, i < 32 → vk_R (zTx i).1 (zTx i).2.1 (zTx i).2.2.1 (ad i).1 s ∧ va_O "java/lang/String" (ad i).1 A s s.heap ∧ va_OF "java/lang/String" "coder" "B" (.int 0) (ad i).1 A s s.heap ∧ va_OF "java/lang/String" "value" "[B" (.ref (ad i).2) (ad i).1 A s s.heap ∧ va_T .byte (ad i).2 (zTx i).2.2.2.length (fun j => .int (Int32.ofInt ((zTx i).2.2.2.getD j 0))) A s s.heap := by
  have hs := flat_of_before _ hgv
  have h0 : ∀ i : Nat, ∃ q : Nat × Nat, i < 32 → vk_R (zTx i).1 (zTx i).2.1 (zTx i).2.2.1 q.1 s ∧ va_O "java/lang/String" q.1 A s s.heap ∧ va_OF "java/lang/String" "coder" "B" (.int 0) q.1 A s s.heap ∧ va_OF "java/lang/String" "value" "[B" (.ref q.2) q.1 A s s.heap ∧ va_T .byte q.2 (zTx i).2.2.2.length (fun j => .int (Int32.ofInt ((zTx i).2.2.2.getD j 0))) A s s.heap := by
    intro i
    by_cases hi : i < 32
    · obtain ⟨a, c, cA, kA, q1, q2, q3, q4, q5, q6, -⟩ := Cond.exactly_spec (args := #[Value.ref b]) (first := s) (o := none) (s := s) (idx := []) (t := .string (zTx i).1 (zTx i).2.1) (cls := "java/lang/String") (hs _ (zJm_ex i hi))
      obtain ⟨t, ht, hT⟩ := va_Tof (f := fun j => .int (Int32.ofInt ((zTx i).2.2.2.getD j 0))) (A := A) (Nat.lt_of_lt_of_le (zJm_nl i hi) (by decide)) (hs _ (zJm_ar i hi)) (va_eqt (hs _ (zJm_le i hi))) (fun j hj => va_eqt (hs _ (zJm_el i hi j hj))) hA
      exact ⟨(a, t), fun _ => ⟨vk_R.of (hts _ (zJm_sr i hi)) q1, ⟨cA, q3, q5, by rw [q6]; exact q2, hA a (Array.getElem?_eq_some_iff.mp q3).1⟩, vk_OFof q1 (va_eqt (hs _ (zJm_co i hi))) hA, vk_OFof q1 ht hA, hT⟩⟩
    · exact ⟨(0, 0), fun h => absurd h hi⟩
  exact Classical.axiomOfChoice h0
theorem zWf_0 {xs : Nat → Int32} {L : Nat} (hL : L ≤ 384) : zWf xs L (zH0 xs L) := by
  have bd : ∀ a j, a < 65 → inI (zI0 xs a j) := fun a j ha => by
    unfold zI0
    split
    · exact toI_in _
    · split
      · exact in_0
      · unfold inI
        by_cases hi : (a - 2) / 2 < 32
        · have := zJm_by _ hi j.toNat
          omega
        · exact absurd (show (a - 2) / 2 < 32 by omega) hi
  refine ⟨⟨Nat.le_refl _, fun c => ?_⟩, fun a j => ?_, fun a j => ⟨by show -9223372036854775808 ≤ (0 : Int); decide, by show (0 : Int) ≤ 9223372036854775807; decide⟩, fun a j c hc => ?_, fun a j c h5 hc => ?_, fun a ha => ⟨if_pos ha, if_pos ha, if_pos ha⟩⟩
  · show (if c < 65 then zK0 L c else (1000, 0)).2 < 2147483648
    split
    · unfold zK0
      split
      · show L < _
        omega
      · split
        · decide
        · show (zTx ((c - 2) / 2)).2.2.2.length < _
          by_cases hi : (c - 2) / 2 < 32
          · have := zJm_nl _ hi
            omega
          · exact absurd (show (c - 2) / 2 < 32 by omega) hi
    · decide
  · show inI ((if a < 65 then zI0 xs a else fun _ => 0) j)
    split
    · exact bd a j ‹_›
    · exact in_0
  · have hc : (if a < 65 then zR0 a else fun _ => none) j = some c := hc
    show c < 65
    split at hc
    · unfold zR0 at hc
      split at hc
      · cases hc
        omega
      · cases hc
    · cases hc
  · have hc : (if a < 65 then zR0 a else fun _ => none) j = some c := hc
    have h5 : 5 ≤ (if a < 65 then zK0 L a else (1000, 0)).1 := h5
    exfalso
    split at hc
    · rename_i ha
      rw [if_pos ha] at h5
      unfold zK0 at h5
      split at h5
      · exact absurd h5 (by show ¬ 5 ≤ 1; decide)
      · split at h5
        · exact absurd h5 (by show ¬ 5 ≤ 0; decide)
        · exact absurd h5 (by show ¬ 5 ≤ 2; decide)
    · cases hc
theorem zJoin {p : Program} {e : Env} {s : State} {m : MethodId} {below : List Frame} {meth : Method} {c : Code} (l : Launch) (hflags : l.flags = flags0) {b L : Nat} {xs : Nat → Int32} (hL : L ≤ 384) (C0 : lw_At p s m meth c b L xs) (hlaw : ∀ (xs : Nat → Int32) (L : Nat), L ≤ 384 → zCm mL_law 10 [zr (some 0)] (zH0 xs L) (fun r => ∃ h', r = zRv (zi 1) h' ∧ gC h' ≤ 601536 ∧ gS h' ≤ 7250538)) : W p l e room_1 s m #[Value.ref b] below meth c s.heap [] 0 0 (lw_Z below #[Value.ref b] s) (entryFrame m ([Value.ref b] : List Value).toArray 4) := by
  obtain ⟨hx, hb, hr, hml, hown, hts, hX, hbl, hlocks, hgv⟩ := id C0
  have hs := flat_of_before _ hgv
  have hA0 : ∀ a : Nat, a < s.heap.size → ¬ (fun q : Nat => s.heap.size ≤ q) a := fun a ha => Nat.not_le.mpr ha
  obtain ⟨ad, had⟩ := zJ_texts (A := fun q : Nat => s.heap.size ≤ q) hgv hts hA0
  obtain ⟨dC, hKc⟩ : ∃ dC : Nat → ClassId × (Nat → Nat), ∀ (k : Nat) (q : vw_C), zcl[k]? = some q → u_Kn s q.1 q.2.1 q.2.2 (dC k).1 (dC k).2 := by
    have h0 : ∀ k : Nat, ∃ d : ClassId × (Nat → Nat), ∀ q : vw_C, zcl[k]? = some q → u_Kn s q.1 q.2.1 q.2.2 d.1 d.2 := by
      intro k
      cases hk : zCls[k]? with
      | none =>
        refine ⟨⟨m.cls, fun n => n⟩, fun q hq => ?_⟩
        have : zcl[k]? = none := by
          show (zCls.map (fun r => r.1))[k]? = none
          rw [List.getElem?_map, hk]
          rfl
        rw [this] at hq
        cases hq
      | some r =>
        obtain ⟨z1, z2⟩ := zCls_at hk
        obtain ⟨f1, f2, f3, f4, f5, f6⟩ := z2
        obtain ⟨cC, iS, hKn⟩ := u_known (C := r.1.1) (T := r.1.2.1) (N := r.1.2.2) (n := r.1.2.2) hts (fun w hw => lw_all_tbl (f1 w hw)) (hts _ (lw_all_tbl f4))
        refine ⟨⟨cC, iS⟩, fun q hq => ?_⟩
        rw [z1] at hq
        cases hq
        exact hKn
    exact Classical.axiomOfChoice h0
  obtain ⟨n, r, hrun, h', rfl, hC, hSl⟩ := hlaw xs L hL
  let fz : Nat → Nat := fun a => if a = 0 then b else if a % 2 = 1 then (ad ((a - 1) / 2)).1 else (ad ((a - 2) / 2)).2
  have hfz0 : fz 0 = b := rfl
  have hfz1 : ∀ k, fz (2 * k + 1) = (ad k).1 := fun k => by
    show (if 2 * k + 1 = 0 then b else if (2 * k + 1) % 2 = 1 then (ad ((2 * k + 1 - 1) / 2)).1 else (ad ((2 * k + 1 - 2) / 2)).2) = _
    rw [if_neg (by omega), if_pos (by omega)]
    congr 2
    omega
  have hfz2 : ∀ k, fz (2 * k + 2) = (ad k).2 := fun k => by
    show (if 2 * k + 2 = 0 then b else if (2 * k + 2) % 2 = 1 then (ad ((2 * k + 2 - 1) / 2)).1 else (ad ((2 * k + 2 - 2) / 2)).2) = _
    rw [if_neg (by omega), if_neg (by omega)]
    congr 2
    omega
  obtain ⟨j1, j2, j3, j4, j5, j6, j7⟩ := zJm_5
  have hf : zFz fz xs L (fun q : Nat => s.heap.size ≤ q) s s.heap := by
    refine ⟨by rw [hfz0]; exact hX, by rw [hfz0]; exact hbl, by rw [hfz0]; exact Nat.not_le.mpr hbl, by omega, fun k hk => ?_, fun k hk => ?_, ?_, ?_, ?_, ?_⟩
    · rw [hfz1, hfz2]
      exact (had k hk).2
    · rw [hfz1]
      exact (had k hk).1
    · exact va_Zof (hts _ j1) (hts _ j2) (va_eqt (hs _ zJm_1)) hA0
    · exact vx_Zqof (hts _ j3) (hts _ j4) (hs _ zJm_2) hA0
    · exact vx_Zqof (hts _ j5) (hts _ j4) (hs _ zJm_3) hA0
    · exact va_Zqof (hts _ j6) (hts _ j7) (hs _ zJm_4) hA0
  have hrel : zRel ((fun k => (dC k).1), (fun k => (dC k).2)) s (fun q : Nat => s.heap.size ≤ q) fz xs L s.heap fz [] [] (zH0 xs L) := by
    refine ⟨⟨fun k q hq => hKc k q hq, fun k q h => by simp at h⟩, fun k q h => by simp at h, ⟨fun i j p q h => by simp at h, fun k q h => by simp at h⟩, rfl, fun i q h => by simp at h, zWf_0 hL, fun a _ => rfl⟩
  have hl := lv_entry ([.ref b]) (n := 4) (Nat.le_of_ble_eq_true rfl)
  rw [lg_entry_eq]
  generalize (lg_sl ([.ref b]) ++ List.replicate (4 - (lg_sl ([.ref b])).length) Slot.unset).toArray = ls at hl ⊢
  have hl : lv_has ls 4 [(0, .ref b)] := hl
  have hctx : zCtx mL_law p s m #[Value.ref b] meth c := ⟨hx, hb, hml, hown, fun w hw => hts w (lw_all_tbl hw), (fun w hw => by
    obtain ⟨h1, h2⟩ := List.mem_filter.mp hw
    have h3 := hts w h1
    unfold zNest at h2
    split at h2
    · exact va_Nw.of rfl h3
    · exact va_Nw.of rfl h3
    · exact va_Nw.of rfl h3
    · exact va_Nw.of rfl h3
    · exact va_AO.of h3
    · cases h2), fun q hq => va_Nc.of (hs _ (zJm_nc q hq)), (fun h => by cases h), hr, hlocks, fun h => absurd rfl h⟩
  have hfin := zFrame (D := ((fun k => (dC k).1), (fun k => (dC k).2))) (A := fun q : Nat => s.heap.size ≤ q) (fz := fz) (xs := xs) (L := L) (l := l) (by
    unfold Launch.stackTraces
    rw [hflags]
    decide +kernel) n mL_law 10 0 _ [] (zH0 xs L) _ hrun p e room_1 s m #[Value.ref b] below meth c s.heap [] 0 0 (lw_Z below #[Value.ref b] s) fz 0 0 0 fz [] [] ls
    ⟨hctx, (fun q hq => by cases hq), hf, fun q hq => hq, ⟨by decide, by decide⟩, ⟨by show gC h' ≤ 601536 + 0; omega, by show gS h' ≤ 7250538 + 0; omega⟩, ?_, (fun E a h9 H' locs' cells' slots' ρ' ws' tys' lr' pc' rs q9 ce er => by cases er)⟩
    ⟨hrel, va_S.rf, ⟨rfl, rfl⟩, fun a _ => rfl, Nat.zero_le _⟩
    (zLR_of (l := [(0, .ref b)]) rfl hl (fun j v hg => by
      match j, hg with
      | 0, hg =>
        cases hg
        exact List.mem_cons_self
      | 1, hg => cases hg
      | 2, hg => cases hg
      | 3, hg => cases hg
      | j + 4, hg => cases hg) (fun j v hg => by
      match j, hg with
      | 0, hg =>
        cases hg
        show 0 < 65
        decide
      | 1, hg => cases hg
      | 2, hg => cases hg
      | 3, hg => cases hg
      | j + 4, hg => cases hg)) (fun v hv => by cases hv)
  · exact hfin
  · intro v h9 H' locs' cells' slots' ρ' ws' tys' lr' pc' i st' er hd hrt P ho
    have ev : v = some (zi 1) ∧ h9 = h' := by
      cases er
      exact ⟨rfl, rfl⟩
    obtain ⟨rfl, rfl⟩ := ev
    obtain ⟨-, hS9, ⟨hc9, hs9⟩, -, -⟩ := P
    have hi : i = .ireturn ∧ st' = [zi 1] := by
      have hmr : mRet mL_law = some .boolean := rfl
      unfold zRet at hrt
      rw [hmr] at hrt
      split at hrt
      · dsimp only at hrt
        split at hrt
        · cases hrt
          exact ⟨rfl, rfl⟩
        · cases hrt
      · dsimp only at hrt
        cases hrt
      · dsimp only at hrt
        cases hrt
      · dsimp only at hrt
        cases hrt
      · cases hrt
    obtain ⟨rfl, rfl⟩ := hi
    refine va_forget (fun q hq => hS9.2.2 q hq) (W.widen (k := 601536) (n := 7250538) (by omega) (by omega) (lw_ret hx hb hr hlocks hd))
