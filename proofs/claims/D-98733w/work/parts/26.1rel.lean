/-! ===== SOUNDNESS, 1: numbers, values, locals ===== -/
set_option maxRecDepth 100000
theorem zI_wI (x : Int) : Int32.ofInt (wI x) = Int32.ofInt x := by
  apply Int32.toInt_inj.mp
  rw [Int32.toInt_ofInt, Int32.toInt_ofInt]
  unfold wI
  have e : (2 : Nat) ^ 32 = 4294967296 := rfl
  simp only [Int.bmod_def, Int32.size]
  omega
theorem zI_wL (x : Int) : Int64.ofInt (wL x) = Int64.ofInt x := by
  apply Int64.toInt_inj.mp
  rw [Int64.toInt_ofInt, Int64.toInt_ofInt]
  unfold wL
  simp only [Int.bmod_def, Int64.size]
  omega
theorem wI_in (x : Int) : inI (wI x) := by unfold inI wI; omega
theorem wL_in (x : Int) : inL (wL x) := by unfold inL wL; omega
theorem wI_id {x : Int} (h1 : -2147483648 ≤ x) (h2 : x ≤ 2147483647) : wI x = x := by unfold wI; omega
theorem wL_id {x : Int} (h1 : -9223372036854775808 ≤ x) (h2 : x ≤ 9223372036854775807) : wL x = x := by unfold wL; omega
theorem toI_in (x : Int32) : inI x.toInt := ⟨by have := Int32.minValue_le_toInt x; simpa using this, by have h9 := Int32.toInt_le x; have e9 : Int32.maxValue.toInt = 2147483647 := rfl; omega⟩
theorem toL_in (x : Int64) : inL x.toInt := ⟨by have := Int64.minValue_le_toInt x; simpa using this, by have h9 := Int64.toInt_le x; have e9 : Int64.maxValue.toInt = 9223372036854775807 := rfl; omega⟩
theorem ofI_to {x : Int} (h : inI x) : (Int32.ofInt x).toInt = x := by
  unfold inI at h
  rw [Int32.toInt_ofInt]
  simp only [Int.bmod_def, Int32.size]
  omega
theorem ofL_to {x : Int} (h : inL x) : (Int64.ofInt x).toInt = x := by
  unfold inL at h
  rw [Int64.toInt_ofInt]
  simp only [Int.bmod_def, Int64.size]
  omega
theorem ofI_eq {x y : Int} (hx : inI x) (hy : inI y) : Int32.ofInt x = Int32.ofInt y ↔ x = y := by
  rw [← Int32.toInt_inj, ofI_to hx, ofI_to hy]
theorem ofI_lt {x y : Int} (hx : inI x) (hy : inI y) : Int32.ofInt x < Int32.ofInt y ↔ x < y := by
  rw [Int32.lt_iff_toInt_lt, ofI_to hx, ofI_to hy]
theorem ofI_le {x y : Int} (hx : inI x) (hy : inI y) : Int32.ofInt x ≤ Int32.ofInt y ↔ x ≤ y := by
  rw [Int32.le_iff_toInt_le, ofI_to hx, ofI_to hy]
theorem ofI_0 : Int32.ofInt 0 = 0 := rfl
theorem in_0 : inI 0 := ⟨by decide, by decide⟩
theorem ofI_nat (n : Nat) : Int32.ofInt (n : Int) = Int32.ofNat n := Int32.ofInt_eq_ofNat
theorem ofI_clamp {x : Int} (hx : inI x) (h0 : 0 ≤ x) : (Int32.ofInt x).toNatClampNeg = x.toNat := by
  show ((Int32.ofInt x).toInt).toNat = x.toNat
  rw [ofI_to hx]
theorem ofI_vp {x : Int} {n : Nat} (hx : inI x) (h0 : 0 ≤ x) (h1 : x < (n : Int)) : vp_in (Int32.ofInt x) n := by
  rw [vp_in_iff, ofI_to hx]
  exact ⟨h0, h1⟩
theorem ofI_nvp {x : Int} {n : Nat} (hx : inI x) (h : ¬ (0 ≤ x ∧ x < (n : Int))) : ¬ vp_in (Int32.ofInt x) n := by
  rw [vp_in_iff, ofI_to hx]
  exact h
theorem ofI_neg {x : Int} (hx : inI x) : ¬ Int32.ofInt x < 0 ↔ 0 ≤ x := by
  rw [show (0 : Int32) = Int32.ofInt 0 from rfl, ofI_lt hx in_0]
  omega
theorem of8 {n : Int} (h1 : -128 ≤ n) (h2 : n ≤ 127) : (Int8.ofInt n).toInt32 = Int32.ofInt n := by
  apply Int32.toInt_inj.mp
  rw [Int8.toInt_toInt32, Int8.toInt_ofInt, Int32.toInt_ofInt]
  simp only [Int.bmod_def, Int32.size, Int8.size]
  omega
theorem of16 {n : Int} (h1 : -32768 ≤ n) (h2 : n ≤ 32767) : (Int16.ofInt n).toInt32 = Int32.ofInt n := by
  apply Int32.toInt_inj.mp
  rw [Int16.toInt_toInt32, Int16.toInt_ofInt, Int32.toInt_ofInt]
  simp only [Int.bmod_def, Int32.size, Int16.size]
  omega
/-! values -/
def zv (ρ : Nat → Nat) (v : zAv) : Value := match v with
  | .inl x => .int (Int32.ofInt x)
  | .inr (.inl x) => .long (Int64.ofInt x)
  | .inr (.inr o) => va_rf (o.map ρ)
def zOk (n : Nat) (v : zAv) : Prop := match v with
  | .inl x => inI x
  | .inr (.inl x) => inL x
  | .inr (.inr none) => True
  | .inr (.inr (some a)) => a < n
theorem zOk_mono {n m : Nat} (h : n ≤ m) {v : zAv} (hv : zOk n v) : zOk m v := by
  rcases v with x | x | (_ | a)
  · exact hv
  · exact hv
  · trivial
  · exact Nat.lt_of_lt_of_le hv h
theorem zv_eq {ρ ρ' : Nat → Nat} {n : Nat} (h : ∀ a, a < n → ρ' a = ρ a) {v : zAv} (hv : zOk n v) : zv ρ' v = zv ρ v := by
  rcases v with x | x | (_ | a)
  · rfl
  · rfl
  · rfl
  · show va_rf (some (ρ' a)) = va_rf (some (ρ a))
    rw [h a hv]
theorem zv_eqs {ρ ρ' : Nat → Nat} {n : Nat} (h : ∀ a, a < n → ρ' a = ρ a) : ∀ {st : List zAv}, (∀ v ∈ st, zOk n v) → st.map (zv ρ') = st.map (zv ρ)
  | [], _ => rfl
  | v :: r, hv => by
    rw [List.map_cons, List.map_cons, zv_eq h (hv v List.mem_cons_self), zv_eqs h (fun w hw => hv w (List.mem_cons_of_mem _ hw))]
theorem zv_cat (ρ : Nat → Nat) (v : zAv) : (zv ρ v).category = if zC1 v = true then 1 else 2 := by
  rcases v with x | x | (_ | a) <;> rfl
theorem zv_c1 {ρ : Nat → Nat} {v : zAv} (h : zC1 v = true) : (zv ρ v).category = 1 := by
  rw [zv_cat, if_pos h]
theorem zWt_eq (ρ : Nat → Nat) : ∀ st : List zAv, ((st.map (zv ρ)).map fun v => v.category).sum = zWt st
  | [] => rfl
  | .inl x :: r => by
    rw [List.map_cons, List.map_cons, List.sum_cons, zWt_eq ρ r]
    rfl
  | .inr (.inl x) :: r => by
    rw [List.map_cons, List.map_cons, List.sum_cons, zWt_eq ρ r]
    rfl
  | .inr (.inr none) :: r => by
    rw [List.map_cons, List.map_cons, List.sum_cons, zWt_eq ρ r]
    rfl
  | .inr (.inr (some a)) :: r => by
    rw [List.map_cons, List.map_cons, List.sum_cons, zWt_eq ρ r]
    rfl
/-! locals -/
def zAsF (ρ : Nat → Nat) : Nat → List (Option zAv) → List (Nat × Value)
  | _, [] => []
  | k, none :: r => zAsF ρ (k + 1) r
  | k, some v :: r => (k, zv ρ v) :: zAsF ρ (k + 1) r
theorem zAsF_mem {ρ : Nat → Nat} : ∀ {ls : List (Option zAv)} {k : Nat} {q : Nat × Value}, q ∈ zAsF ρ k ls → ∃ j v, q.1 = k + j ∧ zGet ls j = some v ∧ q.2 = zv ρ v
  | [], _, _, h => by cases h
  | none :: r, k, q, h => by
    obtain ⟨j, v, h1, h2, h3⟩ := zAsF_mem (ls := r) h
    exact ⟨j + 1, v, by omega, h2, h3⟩
  | some w :: r, k, q, h => by
    rcases List.mem_cons.mp h with e | e
    · subst e
      exact ⟨0, w, rfl, rfl, rfl⟩
    · obtain ⟨j, v, h1, h2, h3⟩ := zAsF_mem (ls := r) e
      exact ⟨j + 1, v, by omega, h2, h3⟩
theorem zAsF_of {ρ : Nat → Nat} : ∀ {ls : List (Option zAv)} {k j : Nat} {v : zAv}, zGet ls j = some v → (k + j, zv ρ v) ∈ zAsF ρ k ls
  | [], _, _, _, h => by cases h
  | none :: r, k, 0, v, h => by cases h
  | none :: r, k, j + 1, v, h => by
    have := zAsF_of (ρ := ρ) (k := k + 1) (ls := r) (j := j) (v := v) h
    rw [show k + (j + 1) = k + 1 + j by omega]
    exact this
  | some w :: r, k, 0, v, h => by
    have e : w = v := Option.some.inj h
    subst e
    exact List.mem_cons_self
  | some w :: r, k, j + 1, v, h => by
    have := zAsF_of (ρ := ρ) (k := k + 1) (ls := r) (j := j) (v := v) h
    rw [show k + (j + 1) = k + 1 + j by omega]
    exact List.mem_cons_of_mem _ this
/-- the machine's locals hold what these say -/
def zLR (ρ : Nat → Nat) (n nL : Nat) (ls : List (Option zAv)) (lr : Array Slot) : Prop := ls.length = nL ∧ lv_has lr nL (zAsF ρ 0 ls) ∧ ∀ j v, zGet ls j = some v → zOk n v
theorem zLR_get {ρ : Nat → Nat} {n nL : Nat} {ls : List (Option zAv)} {lr : Array Slot} (h : zLR ρ n nL ls lr) {k : Nat} {v : zAv} (hg : zGet ls k = some v) : lr[k]? = some (.val (zv ρ v)) := by
  have h1 := h.2.1.2.2 _ (zAsF_of (ρ := ρ) (k := 0) hg)
  simpa using h1
theorem zLR_of {ρ : Nat → Nat} {n nL : Nat} {ls : List (Option zAv)} {lr : Array Slot} {l : List (Nat × Value)} (hlen : ls.length = nL) (hl : lv_has lr nL l) (hs : ∀ j v, zGet ls j = some v → (j, zv ρ v) ∈ l) (ho : ∀ j v, zGet ls j = some v → zOk n v) : zLR ρ n nL ls lr := by
  refine ⟨hlen, ⟨hl.1, hl.2.1, fun q hq => ?_⟩, ho⟩
  obtain ⟨j, v, h1, h2, h3⟩ := zAsF_mem hq
  have h4 := hl.2.2 _ (hs j v h2)
  rw [h1, h3, Nat.zero_add]
  exact h4
theorem zPut_len : ∀ (ls : List (Option zAv)) (k : Nat) (v : Option zAv), (zPut ls k v).length = ls.length
  | [], _, _ => rfl
  | _ :: r, 0, v => rfl
  | o :: r, k + 1, v => by
    show (zPut r k v).length + 1 = r.length + 1
    rw [zPut_len r k v]
theorem zPut_get : ∀ {ls : List (Option zAv)} {k j : Nat} {v : Option zAv} {w : zAv}, zGet (zPut ls k v) j = some w → (j = k ∧ v = some w) ∨ (j ≠ k ∧ zGet ls j = some w)
  | [], _, _, _, _, h => by cases h
  | o :: r, 0, 0, v, w, h => Or.inl ⟨rfl, h⟩
  | o :: r, 0, j + 1, v, w, h => Or.inr ⟨by omega, h⟩
  | o :: r, k + 1, 0, v, w, h => Or.inr ⟨by omega, h⟩
  | o :: r, k + 1, j + 1, v, w, h => by
    rcases zPut_get (ls := r) (k := k) (j := j) h with ⟨h1, h2⟩ | ⟨h1, h2⟩
    · exact Or.inl ⟨by omega, h2⟩
    · exact Or.inr ⟨by omega, h2⟩
theorem zKl_some {o : Option zAv} {w : zAv} (h : zKl o = some w) : o = some w ∧ zC1 w = true := by
  rcases o with _ | (x | x | x)
  · cases h
  · cases h
    exact ⟨rfl, rfl⟩
  · cases h
  · cases h
    exact ⟨rfl, rfl⟩
theorem zKill_len (ls : List (Option zAv)) (k : Nat) : (zKill ls k).length = ls.length := by
  cases k with
  | zero => rfl
  | succ j => exact zPut_len _ _ _
theorem zKill_get {ls : List (Option zAv)} {k j : Nat} {w : zAv} (h : zGet (zKill ls k) j = some w) : zGet ls j = some w ∧ (j + 1 = k → zC1 w = true) := by
  cases k with
  | zero => exact ⟨h, fun q => by omega⟩
  | succ i =>
    rcases zPut_get h with ⟨h1, h2⟩ | ⟨h1, h2⟩
    · subst h1
      obtain ⟨h3, h4⟩ := zKl_some h2
      exact ⟨h3, fun _ => h4⟩
    · exact ⟨h2, fun q => absurd (by omega) h1⟩
theorem zSet1_len (ls : List (Option zAv)) (k : Nat) (v : Option zAv) : (zSet1 ls k v).length = ls.length := (zPut_len _ _ _).trans (zKill_len _ _)
theorem zSet2_len (ls : List (Option zAv)) (k : Nat) (v : Option zAv) : (zSet2 ls k v).length = ls.length := (zPut_len _ _ _).trans ((zPut_len _ _ _).trans (zKill_len _ _))
theorem zSet1_get {ls : List (Option zAv)} {k j : Nat} {v : Option zAv} {w : zAv} (h : zGet (zSet1 ls k v) j = some w) : (j = k ∧ v = some w) ∨ (j ≠ k ∧ zGet ls j = some w ∧ (j + 1 = k → zC1 w = true)) := by
  rcases zPut_get h with h1 | ⟨h1, h2⟩
  · exact Or.inl h1
  · obtain ⟨h3, h4⟩ := zKill_get h2
    exact Or.inr ⟨h1, h3, h4⟩
theorem zSet2_get {ls : List (Option zAv)} {k j : Nat} {v : Option zAv} {w : zAv} (h : zGet (zSet2 ls k v) j = some w) : (j = k ∧ v = some w) ∨ (j ≠ k ∧ j ≠ k + 1 ∧ zGet ls j = some w ∧ (j + 1 = k → zC1 w = true)) := by
  rcases zPut_get h with ⟨h1, h2⟩ | ⟨h1, h2⟩
  · cases h2
  · rcases zPut_get h2 with h3 | ⟨h3, h4⟩
    · exact Or.inl h3
    · obtain ⟨h5, h6⟩ := zKill_get h4
      exact Or.inr ⟨h3, h1, h5, h6⟩
theorem zLR_set1 {ρ : Nat → Nat} {n nL : Nat} {ls : List (Option zAv)} {lr lr' : Array Slot} {k : Nat} {v : zAv} (h : zLR ρ n nL ls lr) (hv : zOk n v)
    (hh : lv_has lr' nL ((k, zv ρ v) :: (zAsF ρ 0 ls).filter (fun q => !(q.1 == k) && !(q.1 + 1 == k && q.2.category == 2)))) : zLR ρ n nL (zSet1 ls k (some v)) lr' := by
  refine zLR_of ((zSet1_len _ _ _).trans h.1) hh (fun j w hg => ?_) (fun j w hg => ?_)
  · rcases zSet1_get hg with ⟨h1, h2⟩ | ⟨h1, h2, h3⟩
    · cases h2
      subst h1
      exact List.mem_cons_self
    · refine List.mem_cons_of_mem _ (List.mem_filter.mpr ⟨by simpa using zAsF_of (ρ := ρ) (k := 0) h2, ?_⟩)
      by_cases e : j + 1 = k
      · have h4 := zv_c1 (ρ := ρ) (h3 e)
        simp [h1, h4]
      · simp [h1, e]
  · rcases zSet1_get hg with ⟨h1, h2⟩ | ⟨h1, h2, h3⟩
    · cases h2
      exact hv
    · exact h.2.2 j w h2
theorem zLR_set1n {ρ : Nat → Nat} {n nL : Nat} {ls : List (Option zAv)} {lr lr' : Array Slot} {k : Nat} {v : Value} (h : zLR ρ n nL ls lr)
    (hh : lv_has lr' nL ((k, v) :: (zAsF ρ 0 ls).filter (fun q => !(q.1 == k) && !(q.1 + 1 == k && q.2.category == 2)))) : zLR ρ n nL (zSet1 ls k none) lr' := by
  refine zLR_of ((zSet1_len _ _ _).trans h.1) hh (fun j w hg => ?_) (fun j w hg => ?_)
  · rcases zSet1_get hg with ⟨h1, h2⟩ | ⟨h1, h2, h3⟩
    · cases h2
    · refine List.mem_cons_of_mem _ (List.mem_filter.mpr ⟨by simpa using zAsF_of (ρ := ρ) (k := 0) h2, ?_⟩)
      by_cases e : j + 1 = k
      · have h4 := zv_c1 (ρ := ρ) (h3 e)
        simp [h1, h4]
      · simp [h1, e]
  · rcases zSet1_get hg with ⟨h1, h2⟩ | ⟨h1, h2, h3⟩
    · cases h2
    · exact h.2.2 j w h2
theorem zLR_set2 {ρ : Nat → Nat} {n nL : Nat} {ls : List (Option zAv)} {lr lr' : Array Slot} {k : Nat} {v : zAv} (h : zLR ρ n nL ls lr) (hv : zOk n v)
    (hh : lv_has lr' nL ((k, zv ρ v) :: (zAsF ρ 0 ls).filter (fun q => !(q.1 == k) && (!(q.1 == k + 1) && !(q.1 + 1 == k && q.2.category == 2))))) : zLR ρ n nL (zSet2 ls k (some v)) lr' := by
  refine zLR_of ((zSet2_len _ _ _).trans h.1) hh (fun j w hg => ?_) (fun j w hg => ?_)
  · rcases zSet2_get hg with ⟨h1, h2⟩ | ⟨h1, h2, h3, h4⟩
    · cases h2
      subst h1
      exact List.mem_cons_self
    · refine List.mem_cons_of_mem _ (List.mem_filter.mpr ⟨by simpa using zAsF_of (ρ := ρ) (k := 0) h3, ?_⟩)
      by_cases e : j + 1 = k
      · have h5 := zv_c1 (ρ := ρ) (h4 e)
        simp [h1, h2, h5]
      · simp [h1, h2, e]
  · rcases zSet2_get hg with ⟨h1, h2⟩ | ⟨h1, h2, h3, h4⟩
    · cases h2
      exact hv
    · exact h.2.2 j w h3
/-- iinc: what stands ahead isn't a long's first half, since its second half would stand here -/
theorem zLR_put {ρ : Nat → Nat} {n nL : Nat} {ls : List (Option zAv)} {lr lr' : Array Slot} {k : Nat} {v v0 : zAv} (h : zLR ρ n nL ls lr) (hv : zOk n v) (h0 : zGet ls k = some v0)
    (hh : lv_has lr' nL ((k, zv ρ v) :: (zAsF ρ 0 ls).filter (fun q => !(q.1 == k) && !(q.1 + 1 == k && q.2.category == 2)))) : zLR ρ n nL (zPut ls k (some v)) lr' := by
  refine zLR_of ((zPut_len _ _ _).trans h.1) hh (fun j w hg => ?_) (fun j w hg => ?_)
  · rcases zPut_get hg with ⟨h1, h2⟩ | ⟨h1, h2⟩
    · cases h2
      subst h1
      exact List.mem_cons_self
    · refine List.mem_cons_of_mem _ (List.mem_filter.mpr ⟨by simpa using zAsF_of (ρ := ρ) (k := 0) h2, ?_⟩)
      by_cases e : j + 1 = k
      · have h4 : (zv ρ w).category ≠ 2 := by
          intro hc
          have h5 := h.2.1.2.1.1 j (zv ρ w) (zLR_get h h2) hc
          rw [e, zLR_get h h0] at h5
          cases h5
        have h6 : (zv ρ w).category = 1 := by
          rcases lv_cat (zv ρ w) with q | q
          · exact q
          · exact absurd q h4
        simp [h1, h6]
      · simp [h1, e]
  · rcases zPut_get hg with ⟨h1, h2⟩ | ⟨h1, h2⟩
    · cases h2
      exact hv
    · exact h.2.2 j w h2
/-- more is known; the references go the same way -/
theorem zLR_moved {ρ ρ' : Nat → Nat} {n m nL : Nat} {ls : List (Option zAv)} {lr : Array Slot} (hn : n ≤ m) (hr : ∀ a, a < n → ρ' a = ρ a) (h : zLR ρ n nL ls lr) : zLR ρ' m nL ls lr := by
  refine zLR_of h.1 h.2.1 (fun j v hg => ?_) (fun j v hg => zOk_mono hn (h.2.2 j v hg))
  rw [zv_eq hr (h.2.2 j v hg)]
  simpa using zAsF_of (ρ := ρ) (k := 0) hg
