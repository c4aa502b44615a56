/-! ===== SOUNDNESS, 2: instructions on locals and stack; branches ===== -/
set_option maxRecDepth 100000
theorem zBinI_inv {f : Int → Int → Int} {ls : List (Option zAv)} {st : List zAv} {q : zFr} (h : zBinI f ls st = some q) : ∃ x y r, st = .inl y :: .inl x :: r ∧ q = (ls, .inl (f x y) :: r) := by
  unfold zBinI at h
  split at h
  · cases h
    exact ⟨_, _, _, rfl, rfl⟩
  · cases h
theorem zBinL_inv {f : Int → Int → Int} {ls : List (Option zAv)} {st : List zAv} {q : zFr} (h : zBinL f ls st = some q) : ∃ x y r, st = .inr (.inl y) :: .inr (.inl x) :: r ∧ q = (ls, .inr (.inl (f x y)) :: r) := by
  unfold zBinL at h
  split at h
  · cases h
    exact ⟨_, _, _, rfl, rfl⟩
  · cases h
theorem zShfL_inv {f : Int → Int → Int} {ls : List (Option zAv)} {st : List zAv} {q : zFr} (h : zShfL f ls st = some q) : ∃ x y r, st = .inl y :: .inr (.inl x) :: r ∧ q = (ls, .inr (.inl (f x y)) :: r) := by
  unfold zShfL at h
  split at h
  · cases h
    exact ⟨_, _, _, rfl, rfl⟩
  · cases h
theorem zUnI_inv {f : Int → Int} {ls : List (Option zAv)} {st : List zAv} {q : zFr} (h : zUnI f ls st = some q) : ∃ x r, st = .inl x :: r ∧ q = (ls, .inl (f x) :: r) := by
  unfold zUnI at h
  split at h
  · cases h
    exact ⟨_, _, rfl, rfl⟩
  · cases h
theorem zUnL_inv {f : Int → Int} {ls : List (Option zAv)} {st : List zAv} {q : zFr} (h : zUnL f ls st = some q) : ∃ x r, st = .inr (.inl x) :: r ∧ q = (ls, .inr (.inl (f x)) :: r) := by
  unfold zUnL at h
  split at h
  · cases h
    exact ⟨_, _, rfl, rfl⟩
  · cases h
theorem zLdI_inv {ls : List (Option zAv)} {k : Nat} {st : List zAv} {q : zFr} (h : zLdI ls k st = some q) : ∃ x, zGet ls k = some (.inl x) ∧ q = (ls, .inl x :: st) := by
  unfold zLdI at h
  split at h
  · rename_i e
    cases h
    exact ⟨_, e, rfl⟩
  · cases h
theorem zLdL_inv {ls : List (Option zAv)} {k : Nat} {st : List zAv} {q : zFr} (h : zLdL ls k st = some q) : ∃ x, zGet ls k = some (.inr (.inl x)) ∧ q = (ls, .inr (.inl x) :: st) := by
  unfold zLdL at h
  split at h
  · rename_i e
    cases h
    exact ⟨_, e, rfl⟩
  · cases h
theorem zLdR_inv {ls : List (Option zAv)} {k : Nat} {st : List zAv} {q : zFr} (h : zLdR ls k st = some q) : ∃ x, zGet ls k = some (.inr (.inr x)) ∧ q = (ls, .inr (.inr x) :: st) := by
  unfold zLdR at h
  split at h
  · rename_i e
    cases h
    exact ⟨_, e, rfl⟩
  · cases h
theorem zStI_inv {ls : List (Option zAv)} {k : Nat} {st : List zAv} {q : zFr} (h : zStI ls k st = some q) : ∃ x r, st = .inl x :: r ∧ k < ls.length ∧ q = (zSet1 ls k (some (.inl x)), r) := by
  unfold zStI at h
  split at h
  · split at h
    · rename_i e
      cases h
      exact ⟨_, _, rfl, e, rfl⟩
    · cases h
  · cases h
theorem zStL_inv {ls : List (Option zAv)} {k : Nat} {st : List zAv} {q : zFr} (h : zStL ls k st = some q) : ∃ x r, st = .inr (.inl x) :: r ∧ k + 1 < ls.length ∧ q = (zSet2 ls k (some (.inr (.inl x))), r) := by
  unfold zStL at h
  split at h
  · split at h
    · rename_i e
      cases h
      exact ⟨_, _, rfl, e, rfl⟩
    · cases h
  · cases h
theorem zStR_inv {ls : List (Option zAv)} {k : Nat} {st : List zAv} {q : zFr} (h : zStR ls k st = some q) : ∃ x r, st = .inr (.inr x) :: r ∧ k < ls.length ∧ q = (zSet1 ls k (some (.inr (.inr x))), r) := by
  unfold zStR at h
  split at h
  · split at h
    · rename_i e
      cases h
      exact ⟨_, _, rfl, e, rfl⟩
    · cases h
  · cases h
section ZS
variable {p : Program} {l : Launch} {e : Env} {R : Room} {s : State} {m : MethodId} {args : Array Value} {below : List Frame} {meth : Method} {c : Code} {H : Heap} {locs : List Loc} {cells slots : Nat} {Q : State → Prop}
variable {cc : ByteArray} {pc : Nat} {ρ : Nat → Nat} {n nL : Nat} {ls ls' : List (Option zAv)} {st st' : List zAv} {lr : Array Slot} {len : Nat}
theorem zS_binI {f : Int → Int → Int} {g : Int32 → Int32 → Int32} (hp : zBinI f ls st = some (ls', st')) (hl : zLR ρ n nL ls lr) (hs : ∀ v ∈ st, zOk n v) (hfg : ∀ x y, Int32.ofInt (f x y) = g (Int32.ofInt x) (Int32.ofInt y)) (hin : ∀ x y, inI (f x y))
    (kk : ∀ lr', zLR ρ n nL ls' lr' → (∀ v ∈ st', zOk n v) → W p l e R s m args below meth c H locs cells slots Q (F0 m (pc + 1) lr' (st'.map (zv ρ))))
    (row : ∀ (x y : Int32) (rest : List Value), W p l e R s m args below meth c H locs cells slots Q (F0 m (pc + 1) lr (.int (g x y) :: rest)) → W p l e R s m args below meth c H locs cells slots Q (F0 m pc lr (.int y :: .int x :: rest))) : W p l e R s m args below meth c H locs cells slots Q (F0 m pc lr (st.map (zv ρ))) := by
  obtain ⟨x, y, r, rfl, h9⟩ := zBinI_inv hp
  cases h9
  have k9 := kk lr hl (fun v hv => by
    rcases List.mem_cons.mp hv with q | q
    · subst q
      exact hin x y
    · exact hs v (List.mem_cons_of_mem _ (List.mem_cons_of_mem _ q)))
  have e9 : zv ρ (.inl (f x y)) = .int (g (Int32.ofInt x) (Int32.ofInt y)) := congrArg Value.int (hfg x y)
  rw [List.map_cons, e9] at k9
  exact row _ _ _ k9
theorem zS_binL {f : Int → Int → Int} {g : Int64 → Int64 → Int64} (hp : zBinL f ls st = some (ls', st')) (hl : zLR ρ n nL ls lr) (hs : ∀ v ∈ st, zOk n v) (hfg : ∀ x y, Int64.ofInt (f x y) = g (Int64.ofInt x) (Int64.ofInt y)) (hin : ∀ x y, inL (f x y))
    (kk : ∀ lr', zLR ρ n nL ls' lr' → (∀ v ∈ st', zOk n v) → W p l e R s m args below meth c H locs cells slots Q (F0 m (pc + 1) lr' (st'.map (zv ρ))))
    (row : ∀ (x y : Int64) (rest : List Value), W p l e R s m args below meth c H locs cells slots Q (F0 m (pc + 1) lr (.long (g x y) :: rest)) → W p l e R s m args below meth c H locs cells slots Q (F0 m pc lr (.long y :: .long x :: rest))) : W p l e R s m args below meth c H locs cells slots Q (F0 m pc lr (st.map (zv ρ))) := by
  obtain ⟨x, y, r, rfl, h9⟩ := zBinL_inv hp
  cases h9
  have k9 := kk lr hl (fun v hv => by
    rcases List.mem_cons.mp hv with q | q
    · subst q
      exact hin x y
    · exact hs v (List.mem_cons_of_mem _ (List.mem_cons_of_mem _ q)))
  have e9 : zv ρ (.inr (.inl (f x y))) = .long (g (Int64.ofInt x) (Int64.ofInt y)) := congrArg Value.long (hfg x y)
  rw [List.map_cons, e9] at k9
  exact row _ _ _ k9
theorem zS_shfL {f : Int → Int → Int} {g : Int64 → Int32 → Int64} (hp : zShfL f ls st = some (ls', st')) (hl : zLR ρ n nL ls lr) (hs : ∀ v ∈ st, zOk n v) (hfg : ∀ x y, Int64.ofInt (f x y) = g (Int64.ofInt x) (Int32.ofInt y)) (hin : ∀ x y, inL (f x y))
    (kk : ∀ lr', zLR ρ n nL ls' lr' → (∀ v ∈ st', zOk n v) → W p l e R s m args below meth c H locs cells slots Q (F0 m (pc + 1) lr' (st'.map (zv ρ))))
    (row : ∀ (x : Int64) (y : Int32) (rest : List Value), W p l e R s m args below meth c H locs cells slots Q (F0 m (pc + 1) lr (.long (g x y) :: rest)) → W p l e R s m args below meth c H locs cells slots Q (F0 m pc lr (.int y :: .long x :: rest))) : W p l e R s m args below meth c H locs cells slots Q (F0 m pc lr (st.map (zv ρ))) := by
  obtain ⟨x, y, r, rfl, h9⟩ := zShfL_inv hp
  cases h9
  have k9 := kk lr hl (fun v hv => by
    rcases List.mem_cons.mp hv with q | q
    · subst q
      exact hin x y
    · exact hs v (List.mem_cons_of_mem _ (List.mem_cons_of_mem _ q)))
  have e9 : zv ρ (.inr (.inl (f x y))) = .long (g (Int64.ofInt x) (Int32.ofInt y)) := congrArg Value.long (hfg x y)
  rw [List.map_cons, e9] at k9
  exact row _ _ _ k9
theorem zS_unI {f : Int → Int} {g : Int32 → Int32} (hp : zUnI f ls st = some (ls', st')) (hl : zLR ρ n nL ls lr) (hs : ∀ v ∈ st, zOk n v) (hfg : ∀ x, Int32.ofInt (f x) = g (Int32.ofInt x)) (hin : ∀ x, inI (f x))
    (kk : ∀ lr', zLR ρ n nL ls' lr' → (∀ v ∈ st', zOk n v) → W p l e R s m args below meth c H locs cells slots Q (F0 m (pc + 1) lr' (st'.map (zv ρ))))
    (row : ∀ (x : Int32) (rest : List Value), W p l e R s m args below meth c H locs cells slots Q (F0 m (pc + 1) lr (.int (g x) :: rest)) → W p l e R s m args below meth c H locs cells slots Q (F0 m pc lr (.int x :: rest))) : W p l e R s m args below meth c H locs cells slots Q (F0 m pc lr (st.map (zv ρ))) := by
  obtain ⟨x, r, rfl, h9⟩ := zUnI_inv hp
  cases h9
  have k9 := kk lr hl (fun v hv => by
    rcases List.mem_cons.mp hv with q | q
    · subst q
      exact hin x
    · exact hs v (List.mem_cons_of_mem _ q))
  have e9 : zv ρ (.inl (f x)) = .int (g (Int32.ofInt x)) := congrArg Value.int (hfg x)
  rw [List.map_cons, e9] at k9
  exact row _ _ k9
theorem zS_ldI {k len : Nat} (hp : zLdI ls k st = some (ls', st')) (hl : zLR ρ n nL ls lr) (hs : ∀ v ∈ st, zOk n v)
    (kk : ∀ lr', zLR ρ n nL ls' lr' → (∀ v ∈ st', zOk n v) → W p l e R s m args below meth c H locs cells slots Q (F0 m (pc + len) lr' (st'.map (zv ρ))))
    (row : ∀ (x : Int32) (rest : List Value), lr[k]? = some (.val (.int x)) → W p l e R s m args below meth c H locs cells slots Q (F0 m (pc + len) lr (.int x :: rest)) → W p l e R s m args below meth c H locs cells slots Q (F0 m pc lr rest)) : W p l e R s m args below meth c H locs cells slots Q (F0 m pc lr (st.map (zv ρ))) := by
  obtain ⟨x, h1, h9⟩ := zLdI_inv hp
  cases h9
  exact row _ _ (zLR_get hl h1) (kk lr hl (fun v hv => by
    rcases List.mem_cons.mp hv with q | q
    · subst q
      exact hl.2.2 _ _ h1
    · exact hs v q))
theorem zS_ldL {k len : Nat} (hp : zLdL ls k st = some (ls', st')) (hl : zLR ρ n nL ls lr) (hs : ∀ v ∈ st, zOk n v)
    (kk : ∀ lr', zLR ρ n nL ls' lr' → (∀ v ∈ st', zOk n v) → W p l e R s m args below meth c H locs cells slots Q (F0 m (pc + len) lr' (st'.map (zv ρ))))
    (row : ∀ (x : Int64) (rest : List Value), lr[k]? = some (.val (.long x)) → W p l e R s m args below meth c H locs cells slots Q (F0 m (pc + len) lr (.long x :: rest)) → W p l e R s m args below meth c H locs cells slots Q (F0 m pc lr rest)) : W p l e R s m args below meth c H locs cells slots Q (F0 m pc lr (st.map (zv ρ))) := by
  obtain ⟨x, h1, h9⟩ := zLdL_inv hp
  cases h9
  exact row _ _ (zLR_get hl h1) (kk lr hl (fun v hv => by
    rcases List.mem_cons.mp hv with q | q
    · subst q
      exact hl.2.2 _ _ h1
    · exact hs v q))
theorem zS_ldR {k len : Nat} (hp : zLdR ls k st = some (ls', st')) (hl : zLR ρ n nL ls lr) (hs : ∀ v ∈ st, zOk n v)
    (kk : ∀ lr', zLR ρ n nL ls' lr' → (∀ v ∈ st', zOk n v) → W p l e R s m args below meth c H locs cells slots Q (F0 m (pc + len) lr' (st'.map (zv ρ))))
    (row : ∀ (x : Nat) (rest : List Value), lr[k]? = some (.val (.ref x)) → W p l e R s m args below meth c H locs cells slots Q (F0 m (pc + len) lr (.ref x :: rest)) → W p l e R s m args below meth c H locs cells slots Q (F0 m pc lr rest))
    (rowN : ∀ (rest : List Value), lr[k]? = some (.val .null) → W p l e R s m args below meth c H locs cells slots Q (F0 m (pc + len) lr (.null :: rest)) → W p l e R s m args below meth c H locs cells slots Q (F0 m pc lr rest)) : W p l e R s m args below meth c H locs cells slots Q (F0 m pc lr (st.map (zv ρ))) := by
  obtain ⟨x, h1, h9⟩ := zLdR_inv hp
  cases h9
  have k9 := kk lr hl (fun v hv => by
    rcases List.mem_cons.mp hv with q | q
    · subst q
      exact hl.2.2 _ _ h1
    · exact hs v q)
  cases x with
  | none => exact rowN _ (zLR_get hl h1) k9
  | some a => exact row _ _ (zLR_get hl h1) k9
theorem zS_stI {k len : Nat} (hp : zStI ls k st = some (ls', st')) (hl : zLR ρ n nL ls lr) (hs : ∀ v ∈ st, zOk n v)
    (kk : ∀ lr', zLR ρ n nL ls' lr' → (∀ v ∈ st', zOk n v) → W p l e R s m args below meth c H locs cells slots Q (F0 m (pc + len) lr' (st'.map (zv ρ))))
    (row : ∀ (x : Int32) (rest : List Value), k < nL → (∀ lr' : Array Slot, lv_has lr' nL ((k, Value.int x) :: (zAsF ρ 0 ls).filter (fun q => !(q.1 == k) && !(q.1 + 1 == k && q.2.category == 2))) → W p l e R s m args below meth c H locs cells slots Q (F0 m (pc + len) lr' rest)) → W p l e R s m args below meth c H locs cells slots Q (F0 m pc lr (.int x :: rest))) : W p l e R s m args below meth c H locs cells slots Q (F0 m pc lr (st.map (zv ρ))) := by
  obtain ⟨x, r, rfl, hk, h9⟩ := zStI_inv hp
  cases h9
  rw [hl.1] at hk
  exact row _ _ hk (fun lr' hh => kk lr' (zLR_set1 hl (hs _ List.mem_cons_self) hh) (fun v hv => hs v (List.mem_cons_of_mem _ hv)))
theorem zS_stL {k len : Nat} (hp : zStL ls k st = some (ls', st')) (hl : zLR ρ n nL ls lr) (hs : ∀ v ∈ st, zOk n v)
    (kk : ∀ lr', zLR ρ n nL ls' lr' → (∀ v ∈ st', zOk n v) → W p l e R s m args below meth c H locs cells slots Q (F0 m (pc + len) lr' (st'.map (zv ρ))))
    (row : ∀ (x : Int64) (rest : List Value), k + 1 < nL → (∀ lr' : Array Slot, lv_has lr' nL ((k, Value.long x) :: (zAsF ρ 0 ls).filter (fun q => !(q.1 == k) && (!(q.1 == k + 1) && !(q.1 + 1 == k && q.2.category == 2)))) → W p l e R s m args below meth c H locs cells slots Q (F0 m (pc + len) lr' rest)) → W p l e R s m args below meth c H locs cells slots Q (F0 m pc lr (.long x :: rest))) : W p l e R s m args below meth c H locs cells slots Q (F0 m pc lr (st.map (zv ρ))) := by
  obtain ⟨x, r, rfl, hk, h9⟩ := zStL_inv hp
  cases h9
  rw [hl.1] at hk
  exact row _ _ hk (fun lr' hh => kk lr' (zLR_set2 hl (hs _ List.mem_cons_self) hh) (fun v hv => hs v (List.mem_cons_of_mem _ hv)))
theorem zS_stR {k len : Nat} (hp : zStR ls k st = some (ls', st')) (hl : zLR ρ n nL ls lr) (hs : ∀ v ∈ st, zOk n v)
    (kk : ∀ lr', zLR ρ n nL ls' lr' → (∀ v ∈ st', zOk n v) → W p l e R s m args below meth c H locs cells slots Q (F0 m (pc + len) lr' (st'.map (zv ρ))))
    (row : ∀ (x : Nat) (rest : List Value), k < nL → (∀ lr' : Array Slot, lv_has lr' nL ((k, Value.ref x) :: (zAsF ρ 0 ls).filter (fun q => !(q.1 == k) && !(q.1 + 1 == k && q.2.category == 2))) → W p l e R s m args below meth c H locs cells slots Q (F0 m (pc + len) lr' rest)) → W p l e R s m args below meth c H locs cells slots Q (F0 m pc lr (.ref x :: rest)))
    (rowN : ∀ (rest : List Value), k < nL → (∀ lr' : Array Slot, lv_has lr' nL ((k, Value.null) :: (zAsF ρ 0 ls).filter (fun q => !(q.1 == k) && !(q.1 + 1 == k && q.2.category == 2))) → W p l e R s m args below meth c H locs cells slots Q (F0 m (pc + len) lr' rest)) → W p l e R s m args below meth c H locs cells slots Q (F0 m pc lr (.null :: rest))) : W p l e R s m args below meth c H locs cells slots Q (F0 m pc lr (st.map (zv ρ))) := by
  obtain ⟨x, r, rfl, hk, h9⟩ := zStR_inv hp
  cases h9
  rw [hl.1] at hk
  cases x with
  | none => exact rowN _ hk (fun lr' hh => kk lr' (zLR_set1 hl (hs _ List.mem_cons_self) hh) (fun v hv => hs v (List.mem_cons_of_mem _ hv)))
  | some a => exact row _ _ hk (fun lr' hh => kk lr' (zLR_set1 hl (hs _ List.mem_cons_self) hh) (fun v hv => hs v (List.mem_cons_of_mem _ hv)))
theorem ok_cons {v : zAv} {r : List zAv} (hv : zOk n v) (hr : ∀ w ∈ r, zOk n w) : ∀ w ∈ v :: r, zOk n w := fun w hw => by
  rcases List.mem_cons.mp hw with q | q
  · subst q
    exact hv
  · exact hr w q
theorem ok_tl {v : zAv} {r : List zAv} (h : ∀ w ∈ v :: r, zOk n w) : ∀ w ∈ r, zOk n w := fun w hw => h w (List.mem_cons_of_mem _ hw)
theorem ok_hd {v : zAv} {r : List zAv} (h : ∀ w ∈ v :: r, zOk n w) : zOk n v := h v List.mem_cons_self
theorem zCmp_eq {x y : Int} (hx : inL x) (hy : inL y) : Int32.ofInt (zLcmp x y) = lg_cmp (Int64.ofInt x) (Int64.ofInt y) := by
  have h1 : Int64.ofInt x > Int64.ofInt y ↔ y < x := by
    show Int64.ofInt y < Int64.ofInt x ↔ _
    rw [Int64.lt_iff_toInt_lt, ofL_to hx, ofL_to hy]
  have h2 : Int64.ofInt x = Int64.ofInt y ↔ x = y := by rw [← Int64.toInt_inj, ofL_to hx, ofL_to hy]
  unfold zLcmp lg_cmp
  by_cases a : x < y
  · have b : ¬ y < x := by omega
    have d : ¬ x = y := by omega
    rw [if_pos a, if_neg (fun q => b (h1.mp q)), if_neg (fun q => d (h2.mp q))]
    rfl
  · rw [if_neg a]
    by_cases b : y < x
    · rw [if_pos b, if_pos (h1.mpr b)]
      rfl
    · have d : x = y := by omega
      rw [if_neg b, if_neg (fun q => b (h1.mp q)), if_pos (h2.mpr d)]
      rfl
theorem zLcmp_in (x y : Int) : inI (zLcmp x y) := by
  unfold zLcmp inI
  split
  · omega
  · split <;> omega
set_option maxHeartbeats 4000000 in
theorem zS_ls {i : Instr} (hx : p.tables.exec = Jvm.exec) (hb : c.code = cc) (hdg : decode cc pc = .ok (i, len)) (hlen : zLenOk i len = true) (hp : zLS i ls st = some (ls', st')) (hl : zLR ρ n nL ls lr) (hs : ∀ v ∈ st, zOk n v)
    (kk : ∀ lr', zLR ρ n nL ls' lr' → (∀ v ∈ st', zOk n v) → W p l e R s m args below meth c H locs cells slots Q (F0 m (pc + len) lr' (st'.map (zv ρ)))) : W p l e R s m args below meth c H locs cells slots Q (F0 m pc lr (st.map (zv ρ))) := by
  have nI0 : ∀ {y : Int}, inI y → y ≠ 0 → ¬ Int32.ofInt y = 0 := fun {y} hy h q => h ((ofI_eq hy in_0).mp q)
  have nL0 : ∀ {y : Int}, inL y → y ≠ 0 → ¬ Int64.ofInt y = 0 := fun {y} hy h q => h (by
    have h1 := congrArg Int64.toInt q
    rw [ofL_to hy] at h1
    exact h1)
  cases i with
  | iconst v =>
    have e1 : len = 1 := Nat.eq_of_beq_eq_true hlen
    subst e1
    replace hp : (if -1 ≤ v ∧ v ≤ 5 then some (ls, .inl v :: st) else none) = some (ls', st') := hp
    split at hp
    · rename_i hv
      cases hp
      exact lv_iconst hx hb hdg rfl (kk lr hl (ok_cons ⟨by omega, by omega⟩ hs))
    · cases hp
  | bipush v =>
    have e1 : len = 2 := Nat.eq_of_beq_eq_true hlen
    subst e1
    replace hp : (if -128 ≤ v ∧ v ≤ 127 then some (ls, .inl v :: st) else none) = some (ls', st') := hp
    split at hp
    · rename_i hv
      cases hp
      exact lv_bipush hx hb hdg (of8 hv.1 hv.2) (kk lr hl (ok_cons ⟨by omega, by omega⟩ hs))
    · cases hp
  | sipush v =>
    have e1 : len = 3 := Nat.eq_of_beq_eq_true hlen
    subst e1
    replace hp : (if -32768 ≤ v ∧ v ≤ 32767 then some (ls, .inl v :: st) else none) = some (ls', st') := hp
    split at hp
    · rename_i hv
      cases hp
      exact lv_sipush hx hb hdg (of16 hv.1 hv.2) (kk lr hl (ok_cons ⟨by omega, by omega⟩ hs))
    · cases hp
  | lconst v =>
    have e1 : len = 1 := Nat.eq_of_beq_eq_true hlen
    subst e1
    replace hp : some (ls, .inr (.inl (v.val : Int)) :: st) = some (ls', st') := hp
    cases hp
    exact lv_lconst hx hb hdg Int64.ofInt_eq_ofNat.symm (kk lr hl (ok_cons (show inL (v.val : Int) from ⟨by omega, by omega⟩) hs))
  | aconst_null =>
    have e1 : len = 1 := Nat.eq_of_beq_eq_true hlen
    subst e1
    replace hp : some (ls, .inr (.inr none) :: st) = some (ls', st') := hp
    cases hp
    exact lv_null hx hb hdg (kk lr hl (ok_cons trivial hs))
  | iload_n k =>
    have e1 : len = 1 := Nat.eq_of_beq_eq_true hlen
    subst e1
    exact zS_ldI hp hl hs kk (fun x rest h k9 => lv_iload_n hx hb hdg rfl h k9)
  | iload k =>
    have e1 : len = 2 := Nat.eq_of_beq_eq_true hlen
    subst e1
    exact zS_ldI hp hl hs kk (fun x rest h k9 => lv_iload hx hb hdg h k9)
  | lload_n k =>
    have e1 : len = 1 := Nat.eq_of_beq_eq_true hlen
    subst e1
    exact zS_ldL hp hl hs kk (fun x rest h k9 => lv_lload_n hx hb hdg rfl h k9)
  | lload k =>
    have e1 : len = 2 := Nat.eq_of_beq_eq_true hlen
    subst e1
    exact zS_ldL hp hl hs kk (fun x rest h k9 => lv_lload hx hb hdg h k9)
  | aload_n k =>
    have e1 : len = 1 := Nat.eq_of_beq_eq_true hlen
    subst e1
    exact zS_ldR hp hl hs kk (fun x rest h k9 => lv_aload_n hx hb hdg rfl h k9) (fun rest h k9 => lv_aload_nN hx hb hdg rfl h k9)
  | aload k =>
    have e1 : len = 2 := Nat.eq_of_beq_eq_true hlen
    subst e1
    exact zS_ldR hp hl hs kk (fun x rest h k9 => lv_aload hx hb hdg h k9) (fun rest h k9 => lv_aloadN hx hb hdg h k9)
  | istore_n k =>
    have e1 : len = 1 := Nat.eq_of_beq_eq_true hlen
    subst e1
    exact zS_stI hp hl hs kk (fun x rest h k9 => lv_istore_n hx hb hdg rfl hl.2.1 h rfl k9)
  | istore k =>
    have e1 : len = 2 := Nat.eq_of_beq_eq_true hlen
    subst e1
    exact zS_stI hp hl hs kk (fun x rest h k9 => lv_istore hx hb hdg hl.2.1 h rfl k9)
  | lstore_n k =>
    have e1 : len = 1 := Nat.eq_of_beq_eq_true hlen
    subst e1
    exact zS_stL hp hl hs kk (fun x rest h k9 => lv_lstore_n hx hb hdg rfl hl.2.1 h rfl k9)
  | lstore k =>
    have e1 : len = 2 := Nat.eq_of_beq_eq_true hlen
    subst e1
    exact zS_stL hp hl hs kk (fun x rest h k9 => lv_lstore hx hb hdg hl.2.1 h rfl k9)
  | astore_n k =>
    have e1 : len = 1 := Nat.eq_of_beq_eq_true hlen
    subst e1
    exact zS_stR hp hl hs kk (fun x rest h k9 => lv_astore_n hx hb hdg rfl hl.2.1 h rfl k9) (fun rest h k9 => lv_astore_nN hx hb hdg rfl hl.2.1 h rfl k9)
  | astore k =>
    have e1 : len = 2 := Nat.eq_of_beq_eq_true hlen
    subst e1
    exact zS_stR hp hl hs kk (fun x rest h k9 => lv_astore hx hb hdg hl.2.1 h rfl k9) (fun rest h k9 => lv_astoreN hx hb hdg hl.2.1 h rfl k9)
  | iinc k v =>
    have e1 : len = 3 := Nat.eq_of_beq_eq_true hlen
    subst e1
    replace hp : (match zGet ls k with
      | some (.inl x) => if k < ls.length then some (zPut ls k (some (.inl (wI (x + v)))), st) else none
      | _ => none) = some (ls', st') := hp
    split at hp
    · rename_i x hg
      split at hp
      · rename_i hk
        cases hp
        rw [hl.1] at hk
        obtain ⟨k0, hk0⟩ := List.getElem?_of_mem (show (k, zv ρ (.inl x)) ∈ zAsF ρ 0 ls by simpa using zAsF_of (ρ := ρ) (k := 0) hg)
        exact lv_iinc (v := Int32.ofInt (wI (x + v))) hx hb hdg hl.2.1 (k := k0) hk0 (by rw [zI_wI, Int32.ofInt_add]) hk rfl (fun lr' hh => kk lr' (zLR_put hl (show zOk n (.inl (wI (x + v))) from wI_in _) hg hh) hs)
      · cases hp
    · cases hp
  | iadd =>
    have e1 : len = 1 := Nat.eq_of_beq_eq_true hlen
    subst e1
    exact zS_binI (g := fun a b => a + b) hp hl hs (fun x y => by rw [zI_wI, Int32.ofInt_add]) (fun x y => wI_in _) kk (fun x y rest k9 => lv_iadd hx hb hdg k9)
  | isub =>
    have e1 : len = 1 := Nat.eq_of_beq_eq_true hlen
    subst e1
    exact zS_binI (g := fun a b => a - b) hp hl hs (fun x y => by rw [zI_wI, Int32.ofInt_sub]) (fun x y => wI_in _) kk (fun x y rest k9 => lv_isub hx hb hdg k9)
  | imul =>
    have e1 : len = 1 := Nat.eq_of_beq_eq_true hlen
    subst e1
    exact zS_binI (g := fun a b => a * b) hp hl hs (fun x y => by rw [zI_wI, Int32.ofInt_mul]) (fun x y => wI_in _) kk (fun x y rest k9 => lv_imul hx hb hdg k9)
  | idiv =>
    have e1 : len = 1 := Nat.eq_of_beq_eq_true hlen
    subst e1
    replace hp : (match (generalizing := false) st with
      | .inl y :: .inl x :: r => if y ≠ 0 then some (ls, .inl (zDiv x y) :: r) else none
      | _ => none) = some (ls', st') := hp
    split at hp
    · rename_i y x r
      split at hp
      · rename_i hy
        cases hp
        have k9 := kk lr hl (ok_cons (show zOk n (.inl (zDiv x y)) from toI_in _) (ok_tl (ok_tl hs)))
        have e9 : zv ρ (.inl (zDiv x y)) = .int (Int32.ofInt x / Int32.ofInt y) := congrArg Value.int (Int32.ofInt_toInt _)
        rw [List.map_cons, e9] at k9
        exact lv_idiv hx hb hdg (nI0 (ok_hd hs) hy) k9
      · cases hp
    · cases hp
  | irem =>
    have e1 : len = 1 := Nat.eq_of_beq_eq_true hlen
    subst e1
    replace hp : (match (generalizing := false) st with
      | .inl y :: .inl x :: r => if y ≠ 0 then some (ls, .inl (zRem x y) :: r) else none
      | _ => none) = some (ls', st') := hp
    split at hp
    · rename_i y x r
      split at hp
      · rename_i hy
        cases hp
        have k9 := kk lr hl (ok_cons (show zOk n (.inl (zRem x y)) from toI_in _) (ok_tl (ok_tl hs)))
        have e9 : zv ρ (.inl (zRem x y)) = .int (Int32.ofInt x - Int32.ofInt x / Int32.ofInt y * Int32.ofInt y) := congrArg Value.int (Int32.ofInt_toInt _)
        rw [List.map_cons, e9] at k9
        exact lv_irem hx hb hdg (nI0 (ok_hd hs) hy) k9
      · cases hp
    · cases hp
  | ineg =>
    have e1 : len = 1 := Nat.eq_of_beq_eq_true hlen
    subst e1
    exact zS_unI (g := fun a => -a) hp hl hs (fun x => by rw [zI_wI, Int32.ofInt_neg]) (fun x => wI_in _) kk (fun x rest k9 => lv_ineg hx hb hdg k9)
  | iand =>
    have e1 : len = 1 := Nat.eq_of_beq_eq_true hlen
    subst e1
    exact zS_binI (g := fun a b => a &&& b) hp hl hs (fun x y => Int32.ofInt_toInt _) (fun x y => toI_in _) kk (fun x y rest k9 => lv_iand hx hb hdg k9)
  | ior =>
    have e1 : len = 1 := Nat.eq_of_beq_eq_true hlen
    subst e1
    exact zS_binI (g := fun a b => a ||| b) hp hl hs (fun x y => Int32.ofInt_toInt _) (fun x y => toI_in _) kk (fun x y rest k9 => lv_ior hx hb hdg k9)
  | ixor =>
    have e1 : len = 1 := Nat.eq_of_beq_eq_true hlen
    subst e1
    exact zS_binI (g := fun a b => a ^^^ b) hp hl hs (fun x y => Int32.ofInt_toInt _) (fun x y => toI_in _) kk (fun x y rest k9 => lv_ixor hx hb hdg k9)
  | ishl =>
    have e1 : len = 1 := Nat.eq_of_beq_eq_true hlen
    subst e1
    exact zS_binI (g := fun a b => a <<< (b &&& 31)) hp hl hs (fun x y => Int32.ofInt_toInt _) (fun x y => toI_in _) kk (fun x y rest k9 => lv_ishl hx hb hdg k9)
  | ishr =>
    have e1 : len = 1 := Nat.eq_of_beq_eq_true hlen
    subst e1
    exact zS_binI (g := fun a b => a >>> (b &&& 31)) hp hl hs (fun x y => Int32.ofInt_toInt _) (fun x y => toI_in _) kk (fun x y rest k9 => lv_ishr hx hb hdg k9)
  | iushr =>
    have e1 : len = 1 := Nat.eq_of_beq_eq_true hlen
    subst e1
    exact zS_binI (g := fun a b => (a.toUInt32 >>> (b.toUInt32 &&& Int32.toUInt32 31)).toInt32) hp hl hs (fun x y => Int32.ofInt_toInt _) (fun x y => toI_in _) kk (fun x y rest k9 => lv_iushr hx hb hdg rfl k9)
  | ladd =>
    have e1 : len = 1 := Nat.eq_of_beq_eq_true hlen
    subst e1
    exact zS_binL (g := fun a b => a + b) hp hl hs (fun x y => by rw [zI_wL, Int64.ofInt_add]) (fun x y => wL_in _) kk (fun x y rest k9 => lv_ladd hx hb hdg k9)
  | lsub =>
    have e1 : len = 1 := Nat.eq_of_beq_eq_true hlen
    subst e1
    exact zS_binL (g := fun a b => a - b) hp hl hs (fun x y => by rw [zI_wL, Int64.ofInt_sub]) (fun x y => wL_in _) kk (fun x y rest k9 => lv_lsub hx hb hdg k9)
  | lmul =>
    have e1 : len = 1 := Nat.eq_of_beq_eq_true hlen
    subst e1
    exact zS_binL (g := fun a b => a * b) hp hl hs (fun x y => by rw [zI_wL, Int64.ofInt_mul]) (fun x y => wL_in _) kk (fun x y rest k9 => lv_lmul hx hb hdg k9)
  | ldiv =>
    have e1 : len = 1 := Nat.eq_of_beq_eq_true hlen
    subst e1
    replace hp : (match (generalizing := false) st with
      | .inr (.inl y) :: .inr (.inl x) :: r => if y ≠ 0 then some (ls, .inr (.inl (zDivL x y)) :: r) else none
      | _ => none) = some (ls', st') := hp
    split at hp
    · rename_i y x r
      split at hp
      · rename_i hy
        cases hp
        have k9 := kk lr hl (ok_cons (show zOk n (.inr (.inl (zDivL x y))) from toL_in _) (ok_tl (ok_tl hs)))
        have e9 : zv ρ (.inr (.inl (zDivL x y))) = .long (Int64.ofInt x / Int64.ofInt y) := congrArg Value.long (Int64.ofInt_toInt _)
        rw [List.map_cons, e9] at k9
        exact lv_ldiv hx hb hdg (nL0 (ok_hd hs) hy) k9
      · cases hp
    · cases hp
  | lrem =>
    have e1 : len = 1 := Nat.eq_of_beq_eq_true hlen
    subst e1
    replace hp : (match (generalizing := false) st with
      | .inr (.inl y) :: .inr (.inl x) :: r => if y ≠ 0 then some (ls, .inr (.inl (zRemL x y)) :: r) else none
      | _ => none) = some (ls', st') := hp
    split at hp
    · rename_i y x r
      split at hp
      · rename_i hy
        cases hp
        have k9 := kk lr hl (ok_cons (show zOk n (.inr (.inl (zRemL x y))) from toL_in _) (ok_tl (ok_tl hs)))
        have e9 : zv ρ (.inr (.inl (zRemL x y))) = .long (Int64.ofInt x - Int64.ofInt x / Int64.ofInt y * Int64.ofInt y) := congrArg Value.long (Int64.ofInt_toInt _)
        rw [List.map_cons, e9] at k9
        exact lv_lrem hx hb hdg (nL0 (ok_hd hs) hy) k9
      · cases hp
    · cases hp
  | lneg =>
    have e1 : len = 1 := Nat.eq_of_beq_eq_true hlen
    subst e1
    obtain ⟨x, r, rfl, h9⟩ := zUnL_inv hp
    cases h9
    have k9 := kk lr hl (ok_cons (show zOk n (.inr (.inl (wL (-x)))) from wL_in _) (ok_tl hs))
    have e9 : zv ρ (.inr (.inl (wL (-x)))) = .long (-Int64.ofInt x) := congrArg Value.long (by rw [zI_wL, Int64.ofInt_neg])
    rw [List.map_cons, e9] at k9
    exact lv_lneg hx hb hdg k9
  | land =>
    have e1 : len = 1 := Nat.eq_of_beq_eq_true hlen
    subst e1
    exact zS_binL (g := fun a b => a &&& b) hp hl hs (fun x y => Int64.ofInt_toInt _) (fun x y => toL_in _) kk (fun x y rest k9 => lv_land hx hb hdg k9)
  | lor =>
    have e1 : len = 1 := Nat.eq_of_beq_eq_true hlen
    subst e1
    exact zS_binL (g := fun a b => a ||| b) hp hl hs (fun x y => Int64.ofInt_toInt _) (fun x y => toL_in _) kk (fun x y rest k9 => lv_lor hx hb hdg k9)
  | lxor =>
    have e1 : len = 1 := Nat.eq_of_beq_eq_true hlen
    subst e1
    exact zS_binL (g := fun a b => a ^^^ b) hp hl hs (fun x y => Int64.ofInt_toInt _) (fun x y => toL_in _) kk (fun x y rest k9 => lv_lxor hx hb hdg k9)
  | lshl =>
    have e1 : len = 1 := Nat.eq_of_beq_eq_true hlen
    subst e1
    exact zS_shfL (g := fun a b => a <<< (b.toInt64 &&& 63)) hp hl hs (fun x y => Int64.ofInt_toInt _) (fun x y => toL_in _) kk (fun x y rest k9 => lv_lshl hx hb hdg rfl k9)
  | lshr =>
    have e1 : len = 1 := Nat.eq_of_beq_eq_true hlen
    subst e1
    exact zS_shfL (g := fun a b => a >>> (b.toInt64 &&& 63)) hp hl hs (fun x y => Int64.ofInt_toInt _) (fun x y => toL_in _) kk (fun x y rest k9 => lv_lshr hx hb hdg rfl k9)
  | lushr =>
    have e1 : len = 1 := Nat.eq_of_beq_eq_true hlen
    subst e1
    exact zS_shfL (g := fun a b => (a.toUInt64 >>> (b.toInt64.toUInt64 &&& Int64.toUInt64 63)).toInt64) hp hl hs (fun x y => Int64.ofInt_toInt _) (fun x y => toL_in _) kk (fun x y rest k9 => lv_lushr hx hb hdg rfl k9)
  | i2l =>
    have e1 : len = 1 := Nat.eq_of_beq_eq_true hlen
    subst e1
    replace hp : (match (generalizing := false) st with
      | .inl x :: r => some (ls, .inr (.inl x) :: r)
      | _ => none) = some (ls', st') := hp
    split at hp
    · rename_i x r
      cases hp
      have hx9 : inI x := ok_hd hs
      exact lv_i2l hx hb hdg (v := Int64.ofInt x) (by
        apply Int64.toInt_inj.mp
        rw [Int32.toInt_toInt64, ofI_to hx9, ofL_to ⟨by unfold inI at hx9; omega, by unfold inI at hx9; omega⟩]) (kk lr hl (ok_cons (show inL x from ⟨by unfold inI at hx9; omega, by unfold inI at hx9; omega⟩) (ok_tl hs)))
    · cases hp
  | l2i =>
    have e1 : len = 1 := Nat.eq_of_beq_eq_true hlen
    subst e1
    replace hp : (match (generalizing := false) st with
      | .inr (.inl x) :: r => some (ls, .inl (zL2I x) :: r)
      | _ => none) = some (ls', st') := hp
    split at hp
    · rename_i x r
      cases hp
      exact lv_l2i hx hb hdg (v := Int32.ofInt (zL2I x)) (Int32.ofInt_toInt _).symm (kk lr hl (ok_cons (show inI (zL2I x) from toI_in _) (ok_tl hs)))
    · cases hp
  | i2b =>
    have e1 : len = 1 := Nat.eq_of_beq_eq_true hlen
    subst e1
    exact zS_unI (g := fun a => a.toInt8.toInt32) hp hl hs (fun x => Int32.ofInt_toInt _) (fun x => toI_in _) kk (fun x rest k9 => lv_i2b hx hb hdg rfl k9)
  | i2s =>
    have e1 : len = 1 := Nat.eq_of_beq_eq_true hlen
    subst e1
    exact zS_unI (g := fun a => a.toInt16.toInt32) hp hl hs (fun x => Int32.ofInt_toInt _) (fun x => toI_in _) kk (fun x rest k9 => lv_i2s hx hb hdg rfl k9)
  | i2c =>
    have e1 : len = 1 := Nat.eq_of_beq_eq_true hlen
    subst e1
    exact zS_unI (g := fun a => (a.toUInt32 % 65536).toInt32) hp hl hs (fun x => Int32.ofInt_toInt _) (fun x => toI_in _) kk (fun x rest k9 => lv_i2c hx hb hdg rfl k9)
  | lcmp =>
    have e1 : len = 1 := Nat.eq_of_beq_eq_true hlen
    subst e1
    replace hp : (match (generalizing := false) st with
      | .inr (.inl y) :: .inr (.inl x) :: r => some (ls, .inl (zLcmp x y) :: r)
      | _ => none) = some (ls', st') := hp
    split at hp
    · rename_i y x r
      cases hp
      have k9 := kk lr hl (ok_cons (show zOk n (.inl (zLcmp x y)) from zLcmp_in x y) (ok_tl (ok_tl hs)))
      have e9 : zv ρ (.inl (zLcmp x y)) = .int (lg_cmp (Int64.ofInt x) (Int64.ofInt y)) := congrArg Value.int (zCmp_eq (ok_hd (ok_tl hs)) (ok_hd hs))
      rw [List.map_cons, e9] at k9
      exact W.lcmp hx hb hdg k9
    · cases hp
  | dup =>
    have e1 : len = 1 := Nat.eq_of_beq_eq_true hlen
    subst e1
    replace hp : (match (generalizing := false) st with
      | v :: r => if zC1 v = true then some (ls, v :: v :: r) else none
      | _ => none) = some (ls', st') := hp
    split at hp
    · rename_i v r
      split at hp
      · rename_i hv
        cases hp
        exact lv_dup hx hb hdg (zv_c1 hv) (kk lr hl (ok_cons (ok_hd hs) hs))
      · cases hp
    · cases hp
  | dup2 =>
    have e1 : len = 1 := Nat.eq_of_beq_eq_true hlen
    subst e1
    replace hp : (match (generalizing := false) st with
      | v :: w :: r => if zC1 v = true ∧ zC1 w = true then some (ls, v :: w :: v :: w :: r) else none
      | _ => none) = some (ls', st') := hp
    split at hp
    · rename_i v w r
      split at hp
      · rename_i hv
        cases hp
        exact lv_dup2_11 hx hb hdg (zv_c1 hv.1) (zv_c1 hv.2) (kk lr hl (ok_cons (ok_hd hs) (ok_cons (ok_hd (ok_tl hs)) hs)))
      · cases hp
    · cases hp
  | pop =>
    have e1 : len = 1 := Nat.eq_of_beq_eq_true hlen
    subst e1
    replace hp : (match (generalizing := false) st with
      | v :: r => if zC1 v = true then some (ls, r) else none
      | _ => none) = some (ls', st') := hp
    split at hp
    · rename_i v r
      split at hp
      · rename_i hv
        cases hp
        exact lv_pop hx hb hdg (zv_c1 hv) (kk lr hl (ok_tl hs))
      · cases hp
    · cases hp
  | _ => cases hp
theorem zTgt_inv {pc t : Nat} {off : Int} (h : zTgt pc off = some t) : (pc : Int) + off = (t : Int) := by
  unfold zTgt at h
  split at h
  · cases h
    omega
  · cases h
set_option maxHeartbeats 4000000 in
theorem zS_br {i : Instr} {pc' : Nat} (hx : p.tables.exec = Jvm.exec) (hb : c.code = cc) (hdg : decode cc pc = .ok (i, len)) (hlen : zLenOk i len = true) (hp : zBr i pc st = some (pc', st')) (hs : ∀ v ∈ st, zOk n v)
    (kk : (∀ v ∈ st', zOk n v) → W p l e R s m args below meth c H locs cells slots Q (F0 m pc' lr (st'.map (zv ρ)))) : W p l e R s m args below meth c H locs cells slots Q (F0 m pc lr (st.map (zv ρ))) := by
  cases i with
  | goto off =>
    have e1 : len = 3 := Nat.eq_of_beq_eq_true hlen
    subst e1
    replace hp : (match zTgt pc off with
      | some t => some (t, st)
      | none => none) = some (pc', st') := hp
    split at hp
    · rename_i t ht
      cases hp
      exact lv_goto hx hb hdg (zTgt_inv ht) (kk hs)
    · cases hp
  | ifCond cd off =>
    have e1 : len = 3 := Nat.eq_of_beq_eq_true hlen
    subst e1
    replace hp : (match (generalizing := false) zTgt pc off, st with
      | some t, .inl x :: r => some (if zCnd cd x 0 = true then t else pc + 3, r)
      | _, _ => none) = some (pc', st') := hp
    split at hp
    · rename_i t x r ht
      cases hp
      have hx9 : inI x := ok_hd hs
      have k9 := kk (ok_tl hs)
      have ht := zTgt_inv ht
      have kT : zCnd cd x 0 = true → W p l e R s m args below meth c H locs cells slots Q (F0 m t lr (st'.map (zv ρ))) := fun q => by rw [if_pos q] at k9; exact k9
      have kF : ¬ zCnd cd x 0 = true → W p l e R s m args below meth c H locs cells slots Q (F0 m (pc + 3) lr (st'.map (zv ρ))) := fun q => by rw [if_neg q] at k9; exact k9
      have z0 : (0 : Int32) = Int32.ofInt 0 := rfl
      cases cd with
      | eq => exact lv_if_eq hx hb hdg ht (fun q => kT (by rw [z0, ofI_eq hx9 in_0] at q; simp [zCnd, q])) (fun q => kF (by rw [z0, ofI_eq hx9 in_0] at q; simp [zCnd, q]))
      | ne => exact lv_if_ne hx hb hdg ht (fun q => kT (by rw [z0, ofI_eq hx9 in_0] at q; simp [zCnd, q])) (fun q => kF (by rw [z0, ofI_eq hx9 in_0] at q; simp [zCnd, q]))
      | lt => exact lv_if_lt hx hb hdg ht (fun q => kT (by rw [z0, ofI_lt hx9 in_0] at q; simp [zCnd, q])) (fun q => kF (by rw [z0, ofI_lt hx9 in_0] at q; simpa [zCnd] using q))
      | ge => exact lv_if_ge hx hb hdg ht (fun q => kT (by rw [z0, ofI_le in_0 hx9] at q; simp [zCnd, q])) (fun q => kF (by rw [z0, ofI_le in_0 hx9] at q; simpa [zCnd] using q))
      | gt => exact lv_if_gt hx hb hdg ht (fun q => kT (by rw [z0, ofI_lt in_0 hx9] at q; simp [zCnd, q])) (fun q => kF (by rw [z0, ofI_lt in_0 hx9] at q; simpa [zCnd] using q))
      | le => exact lv_if_le hx hb hdg ht (fun q => kT (by rw [z0, ofI_le hx9 in_0] at q; simp [zCnd, q])) (fun q => kF (by rw [z0, ofI_le hx9 in_0] at q; simpa [zCnd] using q))
    · cases hp
  | if_icmp cd off =>
    have e1 : len = 3 := Nat.eq_of_beq_eq_true hlen
    subst e1
    replace hp : (match (generalizing := false) zTgt pc off, st with
      | some t, .inl y :: .inl x :: r => some (if zCnd cd x y = true then t else pc + 3, r)
      | _, _ => none) = some (pc', st') := hp
    split at hp
    · rename_i t y x r ht
      cases hp
      have hy9 : inI y := ok_hd hs
      have hx9 : inI x := ok_hd (ok_tl hs)
      have k9 := kk (ok_tl (ok_tl hs))
      have ht := zTgt_inv ht
      have kT : zCnd cd x y = true → W p l e R s m args below meth c H locs cells slots Q (F0 m t lr (st'.map (zv ρ))) := fun q => by rw [if_pos q] at k9; exact k9
      have kF : ¬ zCnd cd x y = true → W p l e R s m args below meth c H locs cells slots Q (F0 m (pc + 3) lr (st'.map (zv ρ))) := fun q => by rw [if_neg q] at k9; exact k9
      cases cd with
      | eq => exact lv_icmp_eq hx hb hdg ht (fun q => kT (by rw [ofI_eq hx9 hy9] at q; simp [zCnd, q])) (fun q => kF (by rw [ofI_eq hx9 hy9] at q; simp [zCnd, q]))
      | ne => exact lv_icmp_ne hx hb hdg ht (fun q => kT (by rw [ofI_eq hx9 hy9] at q; simp [zCnd, q])) (fun q => kF (by rw [ofI_eq hx9 hy9] at q; simp [zCnd, q]))
      | lt => exact lv_icmp_lt hx hb hdg ht (fun q => kT (by rw [ofI_lt hx9 hy9] at q; simp [zCnd, q])) (fun q => kF (by rw [ofI_lt hx9 hy9] at q; simpa [zCnd] using q))
      | ge => exact lv_icmp_ge hx hb hdg ht (fun q => kT (by rw [ofI_le hy9 hx9] at q; simp [zCnd, q])) (fun q => kF (by rw [ofI_le hy9 hx9] at q; simpa [zCnd] using q))
      | gt => exact lv_icmp_gt hx hb hdg ht (fun q => kT (by rw [ofI_lt hy9 hx9] at q; simp [zCnd, q])) (fun q => kF (by rw [ofI_lt hy9 hx9] at q; simpa [zCnd] using q))
      | le => exact lv_icmp_le hx hb hdg ht (fun q => kT (by rw [ofI_le hx9 hy9] at q; simp [zCnd, q])) (fun q => kF (by rw [ofI_le hx9 hy9] at q; simpa [zCnd] using q))
    · cases hp
  | ifnull off =>
    have e1 : len = 3 := Nat.eq_of_beq_eq_true hlen
    subst e1
    replace hp : (match (generalizing := false) zTgt pc off, st with
      | some t, .inr (.inr o) :: r => some (if o.isNone = true then t else pc + 3, r)
      | _, _ => none) = some (pc', st') := hp
    split at hp
    · rename_i t o r ht
      cases hp
      have k9 := kk (ok_tl hs)
      cases o with
      | none => exact lv_ifnullN hx hb hdg (zTgt_inv ht) k9
      | some a => exact lv_ifnull hx hb hdg k9
    · cases hp
  | ifnonnull off =>
    have e1 : len = 3 := Nat.eq_of_beq_eq_true hlen
    subst e1
    replace hp : (match (generalizing := false) zTgt pc off, st with
      | some t, .inr (.inr o) :: r => some (if o.isNone = true then pc + 3 else t, r)
      | _, _ => none) = some (pc', st') := hp
    split at hp
    · rename_i t o r ht
      cases hp
      have k9 := kk (ok_tl hs)
      cases o with
      | none => exact lv_ifnonnullN hx hb hdg k9
      | some a => exact lv_ifnonnull hx hb hdg (zTgt_inv ht) k9
    · cases hp
  | tableswitch dflt lo hi offs =>
    replace hp : (match (generalizing := false) st with
      | .inl x :: r => if x < lo ∨ hi < x then (match zTgt pc dflt with
          | some t => some (t, r)
          | none => none) else (match offs[(x - lo).toNat]? with
          | some off => (match zTgt pc off with
            | some t => some (t, r)
            | none => none)
          | none => none)
      | _ => none) = some (pc', st') := hp
    split at hp
    · rename_i x r
      have hx9 : inI x := ok_hd hs
      split at hp
      · rename_i ho
        split at hp
        · rename_i t ht
          cases hp
          exact lv_tableOut hx hb hdg (by rw [ofI_to hx9]; exact ho) (zTgt_inv ht) (kk (ok_tl hs))
        · cases hp
      · rename_i ho
        split at hp
        · rename_i off hoff
          split at hp
          · rename_i t ht
            cases hp
            exact lv_tableIn hx hb hdg (by rw [ofI_to hx9]; exact fun q => ho (Or.inl q)) (by rw [ofI_to hx9]; exact fun q => ho (Or.inr q)) (by rw [ofI_to hx9]; exact hoff) (zTgt_inv ht) (kk (ok_tl hs))
          · cases hp
        · cases hp
    · cases hp
  | _ => cases hp
end ZS
