/-! ===== OPERATIONS, 5: deeds ===== -/
set_option maxRecDepth 100000
theorem zAnd_of {p : Int} (h : zAnd p 255 = p) : Int32.ofInt p &&& 255 = Int32.ofInt p := by
  have h9 := congrArg Int32.ofInt h
  unfold zAnd at h9
  rw [Int32.ofInt_toInt] at h9
  exact h9
theorem zAnd_and {p d : Int} (h : zAnd p 255 = p) : zAnd (zAnd p d) 255 = zAnd p d := by
  have e := zAnd_of h
  unfold zAnd
  rw [Int32.ofInt_toInt]
  congr 1
  show Int32.ofInt p &&& Int32.ofInt d &&& 255 = _
  rw [Int32.and_assoc, Int32.and_comm (Int32.ofInt d), ← Int32.and_assoc, e]
theorem zI32d {x y z : Int32} : x &&& (y ||| z) = (x &&& y) ||| (x &&& z) := by
  rw [← Int32.toBitVec_inj]
  simp only [Int32.toBitVec_and, Int32.toBitVec_or]
  apply BitVec.eq_of_getLsbD_eq
  intro i _
  simp only [BitVec.getLsbD_and, BitVec.getLsbD_or, Bool.and_or_distrib_left]
theorem zAnd_or {p q : Int} (h : zAnd p 255 = p) : zAnd (zOr p q) 255 = zOr p (zAnd 255 q) := by
  have e := zAnd_of h
  unfold zAnd zOr
  rw [Int32.ofInt_toInt, Int32.ofInt_toInt]
  congr 1
  show (Int32.ofInt p ||| Int32.ofInt q) &&& 255 = Int32.ofInt p ||| 255 &&& Int32.ofInt q
  rw [Int32.and_comm, zI32d, Int32.and_comm 255 (Int32.ofInt p), e]
def fAll (a : Int → Int) (set : Int) : Nat → Int
  | 0 => 255
  | n + 1 => if zAnd (zShr set n) 1 = 1 then zAnd (fAll a set n) (a (10 + 4 * n)) else fAll a set n
def fSome (a : Int → Int) (set : Int) : Nat → Int
  | 0 => 0
  | n + 1 => if zAnd (zShr set n) 1 = 1 then zOr (fSome a set n) (a (10 + 4 * n)) else fSome a set n
theorem fAll_next {a : Int → Int} {set i : Int} (h0 : 0 ≤ i) : fAll a set (i + 1).toNat = if zAnd (zShr set i) 1 = 1 then zAnd (fAll a set i.toNat) (a (10 + 4 * i)) else fAll a set i.toNat := by
  have e : (i + 1).toNat = i.toNat + 1 := by omega
  rw [e]
  show (if zAnd (zShr set ((i.toNat : Nat) : Int)) 1 = 1 then zAnd (fAll a set i.toNat) (a (10 + 4 * ((i.toNat : Nat) : Int))) else fAll a set i.toNat) = _
  rw [Int.toNat_of_nonneg h0]
theorem fSome_next {a : Int → Int} {set i : Int} (h0 : 0 ≤ i) : fSome a set (i + 1).toNat = if zAnd (zShr set i) 1 = 1 then zOr (fSome a set i.toNat) (a (10 + 4 * i)) else fSome a set i.toNat := by
  have e : (i + 1).toNat = i.toNat + 1 := by omega
  rw [e]
  show (if zAnd (zShr set ((i.toNat : Nat) : Int)) 1 = 1 then zOr (fSome a set i.toNat) (a (10 + 4 * ((i.toNat : Nat) : Int))) else fSome a set i.toNat) = _
  rw [Int.toNat_of_nonneg h0]
theorem fAll_255 {a : Int → Int} {set : Int} : ∀ n, zAnd (fAll a set n) 255 = fAll a set n
  | 0 => by
    show zAnd 255 255 = 255
    decide +kernel
  | n + 1 => by
    show zAnd (if zAnd (zShr set n) 1 = 1 then zAnd (fAll a set n) (a (10 + 4 * n)) else fAll a set n) 255 = if zAnd (zShr set n) 1 = 1 then zAnd (fAll a set n) (a (10 + 4 * n)) else fAll a set n
    split
    · exact zAnd_and (fAll_255 n)
    · exact fAll_255 n
theorem zShr0' : ∀ n : Nat, n < 8 → zAnd (zShr 0 n) 1 = 0 := by decide +kernel
theorem fAll_0 {a : Int → Int} : ∀ n, n ≤ 6 → fAll a 0 n = 255 ∧ fSome a 0 n = 0
  | 0, _ => ⟨rfl, rfl⟩
  | n + 1, hn => by
    have h9 := zShr0' n (by omega)
    have ih := fAll_0 (a := a) n (by omega)
    constructor
    · show (if zAnd (zShr 0 (n : Int)) 1 = 1 then zAnd (fAll a 0 n) (a (10 + 4 * n)) else fAll a 0 n) = 255
      rw [h9]
      exact ih.1
    · show (if zAnd (zShr 0 (n : Int)) 1 = 1 then zOr (fSome a 0 n) (a (10 + 4 * n)) else fSome a 0 n) = 0
      rw [h9]
      exact ih.2
def fDe (a : Int → Int) (set : Int) : Int := if fPop set = 1 then fAll a set (a 0).toNat else if set = 0 then 255 else zOr (fAll a set (a 0).toNat) (zAnd 255 (zXor (fSome a set (a 0).toNat) (-1)))
theorem fDe_X {a : Int → Int} {set : Int} (h : a 0 ≤ 6) : fDe a set = if fPop set = 1 then fAll a set (a 0).toNat else zAnd (zOr (fAll a set (a 0).toNat) (zXor (fSome a set (a 0).toNat) (-1))) 255 := by
  unfold fDe
  split
  · rfl
  · rw [zAnd_or (fAll_255 _)]
    split
    · rename_i e
      subst e
      obtain ⟨e1, e2⟩ := fAll_0 (a := a) (a 0).toNat (by omega)
      rw [e1, e2]
      decide +kernel
    · rfl
def oDeeds (a : Int → Int) (s : Int) : Int × Int := if 0 ≤ s ∧ s < a 3 then (fDe a (fCap a (fLd a s) (a 4)), 0) else (-1, 1)
def oLawful (a : Int → Int) (s x : Int) : Int × Int := if (0 ≤ s ∧ s < a 3) ∧ (0 ≤ x ∧ x ≤ 7) then (zAnd (zShr (fDe a (fCap a (fLd a s) (a 4))) x) 1, 0) else (-1, 1)
section O5
variable {d : Nat} {h : zHp} {Q : zRs → Prop} {a f nm : Int → Int}
theorem kM_deedsBy {set : Int} (P : zMk h) (v : zIv a) (h0 : 0 ≤ set) (h1 : set < 64) (hQ : Q (zRv (zi (fDe a set)) (zH2 h a f))) : zCm mX6_deedsBy d [zr (some 113), zi set] (zH2 h a f) Q := by
  have P2 : ∀ a f, zMk (zH2 h a f) := fun _ _ => P
  have b0 := (zIgd v).1
  simp (disch := (first | (simp only [gK_sI, gK_sJ, gK_sR, gK_sIA, gK_sJA, gR_sI, gR_sJ, gR_sIA, Nat.reduceLeDiff, Nat.reduceEqDiff, Nat.reduceLT, Int.reduceLE, Int.reduceLT, Int.reduceEq, zWt_i, zWt_l, zWt_r, zWt_n, zH2_gK, zH2_mk, P, zMkk P, zMr0 P, zMk0 P] <;> omega) | omega | fail)) only [if_pos, if_neg, wI_id, zLc_lt, zLc_gt, zLc_eq, zLc_le, zLc_ge, Int.reduceEq, Int.reduceLE, Int.reduceLT, Int.reduceNeg, Int.reduceAdd, Int.reduceMul, Int.reduceSub, not_true_eq_false, not_false_eq_true, reduceIte, zPo_v, zPo_n, zPo_t, zKl_i, zKl_r, zKl_n, zKl_l, gK_sI, gK_sJ, gK_sR, gK_sIA, gK_sJA, gR_sI, gR_sJ, gJ_sI, gI_sJ, gI_sR, gJ_sR, gR_sIA, gJ_sIA, Nat.reduceLeDiff, Nat.reduceEqDiff, and_self, and_true, true_and, and_false, false_and, eX6_deedsBy_0, eX6_deedsBy_3, eX6_deedsBy_4, eX6_deedsBy_5, eX6_deedsBy_6, eX6_deedsBy_7, eX6_deedsBy_11, eX6_deedsBy_12, eX6_deedsBy_15, eX6_deedsBy_16, eX6_deedsBy_17, eX6_deedsBy_20, eX6_deedsBy_21, eX6_deedsBy_22, eX6_deedsBy_24, eX6_deedsBy_27, eX6_deedsBy_30, eX6_deedsBy_33, eX6_deedsBy_34, eX6_deedsBy_35, eX6_deedsBy_38, eX6_deedsBy_40, eX6_deedsBy_43, eX6_deedsBy_44, eX6_deedsBy_45, eX6_deedsBy_46, eX6_deedsBy_47, eX6_deedsBy_48, eX6_deedsBy_49, eX6_deedsBy_50, eX6_deedsBy_53, eX6_deedsBy_55, eX6_deedsBy_58, eX6_deedsBy_59, eX6_deedsBy_60, eX6_deedsBy_61, eX6_deedsBy_62, eX6_deedsBy_63, eX6_deedsBy_66, eX6_deedsBy_69, eX6_deedsBy_70, eX6_deedsBy_73, eX6_deedsBy_74, eX6_deedsBy_77, eX6_deedsBy_78, eX6_deedsBy_81, eX6_deedsBy_82, eX6_deedsBy_85, eX6_deedsBy_88, eX6_deedsBy_91, eX6_deedsBy_92, eX6_deedsBy_95, eX6_deedsBy_96, eX6_deedsBy_97, eX6_deedsBy_98, eX6_deedsBy_99, eX6_deedsBy_100, eX6_deedsBy_in, zH2_gK, zH2_gR, zH2_at, zH2_sI, zU_ne, P, zMkk P, zMr0 P, zMk0 P]
  refine zLoop (a 0) (fun i ls h' => 0 ≤ i ∧ h' = zH2 h a f ∧ ls = [some (zr (some 113)), some (zi set), some (zi (fAll a set i.toNat)), some (zi (fSome a set i.toNat)), some (zi i)]) ?_ ?_ 0 _ _ b0.1 ⟨by omega, rfl, rfl⟩
  · rintro i _ _ hi ⟨hi0, rfl, rfl⟩ k
    have e9 : 8 + 4 * i + 2 = 10 + 4 * i := by omega
    rw [fAll_next hi0, fSome_next hi0] at k
    rw [eX6_deedsBy_9]
    by_cases c : zAnd (zShr set i) 1 = 1
    · rw [if_pos c, if_pos c] at k
      simp (disch := (first | (simp only [gK_sI, gK_sJ, gK_sR, gK_sIA, gK_sJA, gR_sI, gR_sJ, gR_sIA, Nat.reduceLeDiff, Nat.reduceEqDiff, Nat.reduceLT, Int.reduceLE, Int.reduceLT, Int.reduceEq, zWt_i, zWt_l, zWt_r, zWt_n, zH2_gK, zH2_mk, P, zMkk P, zMr0 P, zMk0 P] <;> omega) | omega | fail)) only [if_pos, if_neg, wI_id, zLc_lt, zLc_gt, zLc_eq, zLc_le, zLc_ge, Int.reduceEq, Int.reduceLE, Int.reduceLT, Int.reduceNeg, Int.reduceAdd, Int.reduceMul, Int.reduceSub, not_true_eq_false, not_false_eq_true, reduceIte, zPo_v, zPo_n, zPo_t, zKl_i, zKl_r, zKl_n, zKl_l, gK_sI, gK_sJ, gK_sR, gK_sIA, gK_sJA, gR_sI, gR_sJ, gJ_sI, gI_sJ, gI_sR, gJ_sR, gR_sIA, gJ_sIA, Nat.reduceLeDiff, Nat.reduceEqDiff, and_self, and_true, true_and, and_false, false_and, eX6_deedsBy_0, eX6_deedsBy_3, eX6_deedsBy_4, eX6_deedsBy_5, eX6_deedsBy_6, eX6_deedsBy_7, eX6_deedsBy_11, eX6_deedsBy_12, eX6_deedsBy_15, eX6_deedsBy_16, eX6_deedsBy_17, eX6_deedsBy_20, eX6_deedsBy_21, eX6_deedsBy_22, eX6_deedsBy_24, eX6_deedsBy_27, eX6_deedsBy_30, eX6_deedsBy_33, eX6_deedsBy_34, eX6_deedsBy_35, eX6_deedsBy_38, eX6_deedsBy_40, eX6_deedsBy_43, eX6_deedsBy_44, eX6_deedsBy_45, eX6_deedsBy_46, eX6_deedsBy_47, eX6_deedsBy_48, eX6_deedsBy_49, eX6_deedsBy_50, eX6_deedsBy_53, eX6_deedsBy_55, eX6_deedsBy_58, eX6_deedsBy_59, eX6_deedsBy_60, eX6_deedsBy_61, eX6_deedsBy_62, eX6_deedsBy_63, eX6_deedsBy_66, eX6_deedsBy_69, eX6_deedsBy_70, eX6_deedsBy_73, eX6_deedsBy_74, eX6_deedsBy_77, eX6_deedsBy_78, eX6_deedsBy_81, eX6_deedsBy_82, eX6_deedsBy_85, eX6_deedsBy_88, eX6_deedsBy_91, eX6_deedsBy_92, eX6_deedsBy_95, eX6_deedsBy_96, eX6_deedsBy_97, eX6_deedsBy_98, eX6_deedsBy_99, eX6_deedsBy_100, eX6_deedsBy_in, zH2_gK, zH2_gR, zH2_at, zH2_sI, zU_ne, P, zMkk P, zMr0 P, zMk0 P, cM_isIn, c, cM_nationRow, e9]
      exact k _ _ ⟨by omega, rfl, rfl⟩
    · rw [if_neg c, if_neg c] at k
      simp (disch := (first | (simp only [gK_sI, gK_sJ, gK_sR, gK_sIA, gK_sJA, gR_sI, gR_sJ, gR_sIA, Nat.reduceLeDiff, Nat.reduceEqDiff, Nat.reduceLT, Int.reduceLE, Int.reduceLT, Int.reduceEq, zWt_i, zWt_l, zWt_r, zWt_n, zH2_gK, zH2_mk, P, zMkk P, zMr0 P, zMk0 P] <;> omega) | omega | fail)) only [if_pos, if_neg, wI_id, zLc_lt, zLc_gt, zLc_eq, zLc_le, zLc_ge, Int.reduceEq, Int.reduceLE, Int.reduceLT, Int.reduceNeg, Int.reduceAdd, Int.reduceMul, Int.reduceSub, not_true_eq_false, not_false_eq_true, reduceIte, zPo_v, zPo_n, zPo_t, zKl_i, zKl_r, zKl_n, zKl_l, gK_sI, gK_sJ, gK_sR, gK_sIA, gK_sJA, gR_sI, gR_sJ, gJ_sI, gI_sJ, gI_sR, gJ_sR, gR_sIA, gJ_sIA, Nat.reduceLeDiff, Nat.reduceEqDiff, and_self, and_true, true_and, and_false, false_and, eX6_deedsBy_0, eX6_deedsBy_3, eX6_deedsBy_4, eX6_deedsBy_5, eX6_deedsBy_6, eX6_deedsBy_7, eX6_deedsBy_11, eX6_deedsBy_12, eX6_deedsBy_15, eX6_deedsBy_16, eX6_deedsBy_17, eX6_deedsBy_20, eX6_deedsBy_21, eX6_deedsBy_22, eX6_deedsBy_24, eX6_deedsBy_27, eX6_deedsBy_30, eX6_deedsBy_33, eX6_deedsBy_34, eX6_deedsBy_35, eX6_deedsBy_38, eX6_deedsBy_40, eX6_deedsBy_43, eX6_deedsBy_44, eX6_deedsBy_45, eX6_deedsBy_46, eX6_deedsBy_47, eX6_deedsBy_48, eX6_deedsBy_49, eX6_deedsBy_50, eX6_deedsBy_53, eX6_deedsBy_55, eX6_deedsBy_58, eX6_deedsBy_59, eX6_deedsBy_60, eX6_deedsBy_61, eX6_deedsBy_62, eX6_deedsBy_63, eX6_deedsBy_66, eX6_deedsBy_69, eX6_deedsBy_70, eX6_deedsBy_73, eX6_deedsBy_74, eX6_deedsBy_77, eX6_deedsBy_78, eX6_deedsBy_81, eX6_deedsBy_82, eX6_deedsBy_85, eX6_deedsBy_88, eX6_deedsBy_91, eX6_deedsBy_92, eX6_deedsBy_95, eX6_deedsBy_96, eX6_deedsBy_97, eX6_deedsBy_98, eX6_deedsBy_99, eX6_deedsBy_100, eX6_deedsBy_in, zH2_gK, zH2_gR, zH2_at, zH2_sI, zU_ne, P, zMkk P, zMr0 P, zMk0 P, cM_isIn, c]
      exact k _ _ ⟨by omega, rfl, rfl⟩
  · rintro _ _ ⟨-, rfl, rfl⟩
    rw [eX6_deedsBy_9]
    unfold fDe at hQ
    by_cases c1 : fPop set = 1
    · rw [if_pos c1] at hQ
      simp (disch := (first | (simp only [gK_sI, gK_sJ, gK_sR, gK_sIA, gK_sJA, gR_sI, gR_sJ, gR_sIA, Nat.reduceLeDiff, Nat.reduceEqDiff, Nat.reduceLT, Int.reduceLE, Int.reduceLT, Int.reduceEq, zWt_i, zWt_l, zWt_r, zWt_n, zH2_gK, zH2_mk, P, zMkk P, zMr0 P, zMk0 P] <;> omega) | omega | fail)) only [if_pos, if_neg, wI_id, zLc_lt, zLc_gt, zLc_eq, zLc_le, zLc_ge, Int.reduceEq, Int.reduceLE, Int.reduceLT, Int.reduceNeg, Int.reduceAdd, Int.reduceMul, Int.reduceSub, not_true_eq_false, not_false_eq_true, reduceIte, zPo_v, zPo_n, zPo_t, zKl_i, zKl_r, zKl_n, zKl_l, gK_sI, gK_sJ, gK_sR, gK_sIA, gK_sJA, gR_sI, gR_sJ, gJ_sI, gI_sJ, gI_sR, gJ_sR, gR_sIA, gJ_sIA, Nat.reduceLeDiff, Nat.reduceEqDiff, and_self, and_true, true_and, and_false, false_and, eX6_deedsBy_0, eX6_deedsBy_3, eX6_deedsBy_4, eX6_deedsBy_5, eX6_deedsBy_6, eX6_deedsBy_7, eX6_deedsBy_11, eX6_deedsBy_12, eX6_deedsBy_15, eX6_deedsBy_16, eX6_deedsBy_17, eX6_deedsBy_20, eX6_deedsBy_21, eX6_deedsBy_22, eX6_deedsBy_24, eX6_deedsBy_27, eX6_deedsBy_30, eX6_deedsBy_33, eX6_deedsBy_34, eX6_deedsBy_35, eX6_deedsBy_38, eX6_deedsBy_40, eX6_deedsBy_43, eX6_deedsBy_44, eX6_deedsBy_45, eX6_deedsBy_46, eX6_deedsBy_47, eX6_deedsBy_48, eX6_deedsBy_49, eX6_deedsBy_50, eX6_deedsBy_53, eX6_deedsBy_55, eX6_deedsBy_58, eX6_deedsBy_59, eX6_deedsBy_60, eX6_deedsBy_61, eX6_deedsBy_62, eX6_deedsBy_63, eX6_deedsBy_66, eX6_deedsBy_69, eX6_deedsBy_70, eX6_deedsBy_73, eX6_deedsBy_74, eX6_deedsBy_77, eX6_deedsBy_78, eX6_deedsBy_81, eX6_deedsBy_82, eX6_deedsBy_85, eX6_deedsBy_88, eX6_deedsBy_91, eX6_deedsBy_92, eX6_deedsBy_95, eX6_deedsBy_96, eX6_deedsBy_97, eX6_deedsBy_98, eX6_deedsBy_99, eX6_deedsBy_100, eX6_deedsBy_in, zH2_gK, zH2_gR, zH2_at, zH2_sI, zU_ne, P, zMkk P, zMr0 P, zMk0 P, cM_bits h0 h1, c1]
      exact hQ
    · rw [if_neg c1] at hQ
      by_cases c2 : set = 0
      · rw [if_pos c2] at hQ
        subst c2
        simp (disch := (first | (simp only [gK_sI, gK_sJ, gK_sR, gK_sIA, gK_sJA, gR_sI, gR_sJ, gR_sIA, Nat.reduceLeDiff, Nat.reduceEqDiff, Nat.reduceLT, Int.reduceLE, Int.reduceLT, Int.reduceEq, zWt_i, zWt_l, zWt_r, zWt_n, zH2_gK, zH2_mk, P, zMkk P, zMr0 P, zMk0 P] <;> omega) | omega | fail)) only [if_pos, if_neg, wI_id, zLc_lt, zLc_gt, zLc_eq, zLc_le, zLc_ge, Int.reduceEq, Int.reduceLE, Int.reduceLT, Int.reduceNeg, Int.reduceAdd, Int.reduceMul, Int.reduceSub, not_true_eq_false, not_false_eq_true, reduceIte, zPo_v, zPo_n, zPo_t, zKl_i, zKl_r, zKl_n, zKl_l, gK_sI, gK_sJ, gK_sR, gK_sIA, gK_sJA, gR_sI, gR_sJ, gJ_sI, gI_sJ, gI_sR, gJ_sR, gR_sIA, gJ_sIA, Nat.reduceLeDiff, Nat.reduceEqDiff, and_self, and_true, true_and, and_false, false_and, eX6_deedsBy_0, eX6_deedsBy_3, eX6_deedsBy_4, eX6_deedsBy_5, eX6_deedsBy_6, eX6_deedsBy_7, eX6_deedsBy_11, eX6_deedsBy_12, eX6_deedsBy_15, eX6_deedsBy_16, eX6_deedsBy_17, eX6_deedsBy_20, eX6_deedsBy_21, eX6_deedsBy_22, eX6_deedsBy_24, eX6_deedsBy_27, eX6_deedsBy_30, eX6_deedsBy_33, eX6_deedsBy_34, eX6_deedsBy_35, eX6_deedsBy_38, eX6_deedsBy_40, eX6_deedsBy_43, eX6_deedsBy_44, eX6_deedsBy_45, eX6_deedsBy_46, eX6_deedsBy_47, eX6_deedsBy_48, eX6_deedsBy_49, eX6_deedsBy_50, eX6_deedsBy_53, eX6_deedsBy_55, eX6_deedsBy_58, eX6_deedsBy_59, eX6_deedsBy_60, eX6_deedsBy_61, eX6_deedsBy_62, eX6_deedsBy_63, eX6_deedsBy_66, eX6_deedsBy_69, eX6_deedsBy_70, eX6_deedsBy_73, eX6_deedsBy_74, eX6_deedsBy_77, eX6_deedsBy_78, eX6_deedsBy_81, eX6_deedsBy_82, eX6_deedsBy_85, eX6_deedsBy_88, eX6_deedsBy_91, eX6_deedsBy_92, eX6_deedsBy_95, eX6_deedsBy_96, eX6_deedsBy_97, eX6_deedsBy_98, eX6_deedsBy_99, eX6_deedsBy_100, eX6_deedsBy_in, zH2_gK, zH2_gR, zH2_at, zH2_sI, zU_ne, P, zMkk P, zMr0 P, zMk0 P, cM_bits h0 h1, c1]
        exact hQ
      · rw [if_neg c2] at hQ
        simp (disch := (first | (simp only [gK_sI, gK_sJ, gK_sR, gK_sIA, gK_sJA, gR_sI, gR_sJ, gR_sIA, Nat.reduceLeDiff, Nat.reduceEqDiff, Nat.reduceLT, Int.reduceLE, Int.reduceLT, Int.reduceEq, zWt_i, zWt_l, zWt_r, zWt_n, zH2_gK, zH2_mk, P, zMkk P, zMr0 P, zMk0 P] <;> omega) | omega | fail)) only [if_pos, if_neg, wI_id, zLc_lt, zLc_gt, zLc_eq, zLc_le, zLc_ge, Int.reduceEq, Int.reduceLE, Int.reduceLT, Int.reduceNeg, Int.reduceAdd, Int.reduceMul, Int.reduceSub, not_true_eq_false, not_false_eq_true, reduceIte, zPo_v, zPo_n, zPo_t, zKl_i, zKl_r, zKl_n, zKl_l, gK_sI, gK_sJ, gK_sR, gK_sIA, gK_sJA, gR_sI, gR_sJ, gJ_sI, gI_sJ, gI_sR, gJ_sR, gR_sIA, gJ_sIA, Nat.reduceLeDiff, Nat.reduceEqDiff, and_self, and_true, true_and, and_false, false_and, eX6_deedsBy_0, eX6_deedsBy_3, eX6_deedsBy_4, eX6_deedsBy_5, eX6_deedsBy_6, eX6_deedsBy_7, eX6_deedsBy_11, eX6_deedsBy_12, eX6_deedsBy_15, eX6_deedsBy_16, eX6_deedsBy_17, eX6_deedsBy_20, eX6_deedsBy_21, eX6_deedsBy_22, eX6_deedsBy_24, eX6_deedsBy_27, eX6_deedsBy_30, eX6_deedsBy_33, eX6_deedsBy_34, eX6_deedsBy_35, eX6_deedsBy_38, eX6_deedsBy_40, eX6_deedsBy_43, eX6_deedsBy_44, eX6_deedsBy_45, eX6_deedsBy_46, eX6_deedsBy_47, eX6_deedsBy_48, eX6_deedsBy_49, eX6_deedsBy_50, eX6_deedsBy_53, eX6_deedsBy_55, eX6_deedsBy_58, eX6_deedsBy_59, eX6_deedsBy_60, eX6_deedsBy_61, eX6_deedsBy_62, eX6_deedsBy_63, eX6_deedsBy_66, eX6_deedsBy_69, eX6_deedsBy_70, eX6_deedsBy_73, eX6_deedsBy_74, eX6_deedsBy_77, eX6_deedsBy_78, eX6_deedsBy_81, eX6_deedsBy_82, eX6_deedsBy_85, eX6_deedsBy_88, eX6_deedsBy_91, eX6_deedsBy_92, eX6_deedsBy_95, eX6_deedsBy_96, eX6_deedsBy_97, eX6_deedsBy_98, eX6_deedsBy_99, eX6_deedsBy_100, eX6_deedsBy_in, zH2_gK, zH2_gR, zH2_at, zH2_sI, zU_ne, P, zMkk P, zMr0 P, zMk0 P, cM_bits h0 h1, c1, c2]
        exact hQ
theorem kX_deeds {w : Nat} {s : Int} (v : zIv a) (P : zPw h w a nm) (h0 : 0 ≤ s) (h1 : s < 4) (hQ : ∀ h', zPw h' w a nm → zSw w h h' → Q (zRv (zi (fDe a (fCap a (fLd a s) (a 4)))) h')) : zCm mX5_deeds d [zr (some w), zi s] h Q := by
  have W0 := P.2.1
  have b0 := (zIgd v).1
  simp (disch := (first | (simp only [gK_sI, gK_sJ, gK_sR, gK_sIA, gK_sJA, gR_sI, gR_sJ, gR_sIA, Nat.reduceLeDiff, Nat.reduceEqDiff, Nat.reduceLT, Int.reduceLE, Int.reduceLT, Int.reduceEq, zWt_i, zWt_l, zWt_r, zWt_n, W0, zWkk W0] <;> omega) | omega | fail)) only [if_pos, if_neg, wI_id, zLc_lt, zLc_gt, zLc_eq, zLc_le, zLc_ge, Int.reduceEq, Int.reduceLE, Int.reduceLT, Int.reduceNeg, Int.reduceAdd, Int.reduceMul, Int.reduceSub, not_true_eq_false, not_false_eq_true, reduceIte, zPo_v, zPo_n, zPo_t, zKl_i, zKl_r, zKl_n, zKl_l, gK_sI, gK_sJ, gK_sR, gK_sIA, gK_sJA, gR_sI, gR_sJ, gJ_sI, gI_sJ, gI_sR, gJ_sR, gR_sIA, gJ_sIA, Nat.reduceLeDiff, Nat.reduceEqDiff, and_self, and_true, true_and, and_false, false_and, eX5_deeds_0, eX5_deeds_1, eX5_deeds_2, eX5_deeds_5, eX5_deeds_6, eX5_deeds_9, eX5_deeds_10, eX5_deeds_11, eX5_deeds_13, eX5_deeds_14, eX5_deeds_18, eX5_deeds_19, eX5_deeds_22, eX5_deeds_25, eX5_deeds_26, eX5_deeds_28, eX5_deeds_31, eX5_deeds_34, eX5_deeds_37, eX5_deeds_38, eX5_deeds_39, eX5_deeds_42, eX5_deeds_44, eX5_deeds_45, eX5_deeds_48, eX5_deeds_49, eX5_deeds_50, eX5_deeds_52, eX5_deeds_53, eX5_deeds_56, eX5_deeds_58, eX5_deeds_59, eX5_deeds_62, eX5_deeds_63, eX5_deeds_65, eX5_deeds_68, eX5_deeds_71, eX5_deeds_72, eX5_deeds_75, eX5_deeds_76, eX5_deeds_79, eX5_deeds_80, eX5_deeds_83, eX5_deeds_84, eX5_deeds_86, eX5_deeds_87, eX5_deeds_88, eX5_deeds_89, eX5_deeds_92, eX5_deeds_93, eX5_deeds_in]
  refine kX_captains2 v P h0 h1 (fun h1 P1 S1 => ?_)
  have hQ := hQ h1 P1 S1
  have W := P1.2.1
  have hb := fCap_b (ld := fLd a s) (by9 := a 4) (zIgd v)
  rw [fDe_X b0.2] at hQ
  generalize fCap a (fLd a s) (a 4) = set at hQ hb ⊢
  have p0 := P1.2.2.1.1
  obtain ⟨N, n1, n2, n3⟩ := P1.2.2.2.1
  simp (disch := (first | (simp only [gK_sI, gK_sJ, gK_sR, gK_sIA, gK_sJA, gR_sI, gR_sJ, gR_sIA, Nat.reduceLeDiff, Nat.reduceEqDiff, Nat.reduceLT, Int.reduceLE, Int.reduceLT, Int.reduceEq, zWt_i, zWt_l, zWt_r, zWt_n, W, zWkk W] <;> omega) | omega | fail)) only [if_pos, if_neg, wI_id, zLc_lt, zLc_gt, zLc_eq, zLc_le, zLc_ge, Int.reduceEq, Int.reduceLE, Int.reduceLT, Int.reduceNeg, Int.reduceAdd, Int.reduceMul, Int.reduceSub, not_true_eq_false, not_false_eq_true, reduceIte, zPo_v, zPo_n, zPo_t, zKl_i, zKl_r, zKl_n, zKl_l, gK_sI, gK_sJ, gK_sR, gK_sIA, gK_sJA, gR_sI, gR_sJ, gJ_sI, gI_sJ, gI_sR, gJ_sR, gR_sIA, gJ_sIA, Nat.reduceLeDiff, Nat.reduceEqDiff, and_self, and_true, true_and, and_false, false_and, eX5_deeds_0, eX5_deeds_1, eX5_deeds_2, eX5_deeds_5, eX5_deeds_6, eX5_deeds_9, eX5_deeds_10, eX5_deeds_11, eX5_deeds_13, eX5_deeds_14, eX5_deeds_18, eX5_deeds_19, eX5_deeds_22, eX5_deeds_25, eX5_deeds_26, eX5_deeds_28, eX5_deeds_31, eX5_deeds_34, eX5_deeds_37, eX5_deeds_38, eX5_deeds_39, eX5_deeds_42, eX5_deeds_44, eX5_deeds_45, eX5_deeds_48, eX5_deeds_49, eX5_deeds_50, eX5_deeds_52, eX5_deeds_53, eX5_deeds_56, eX5_deeds_58, eX5_deeds_59, eX5_deeds_62, eX5_deeds_63, eX5_deeds_65, eX5_deeds_68, eX5_deeds_71, eX5_deeds_72, eX5_deeds_75, eX5_deeds_76, eX5_deeds_79, eX5_deeds_80, eX5_deeds_83, eX5_deeds_84, eX5_deeds_86, eX5_deeds_87, eX5_deeds_88, eX5_deeds_89, eX5_deeds_92, eX5_deeds_93, eX5_deeds_in]
  refine zLoop (a 0) (fun i ls h' => 0 ≤ i ∧ h1 = h' ∧ ls = [some (zr (some w)), some (zi s), some (zi set), some (zi (fAll a set i.toNat)), some (zi (fSome a set i.toNat)), some (zi i)]) ?_ ?_ 0 _ _ b0.1 ⟨by omega, rfl, rfl⟩
  · rintro i _ _ hi ⟨hi0, rfl, rfl⟩ k
    obtain ⟨p9, p1, p2, p3, p4, p5, p6⟩ := n3 i hi0 hi
    rw [fAll_next hi0, fSome_next hi0] at k
    rw [eX5_deeds_16]
    by_cases c : zAnd (zShr set i) 1 = 1
    · rw [if_pos c, if_pos c] at k
      simp (disch := (first | (simp only [gK_sI, gK_sJ, gK_sR, gK_sIA, gK_sJA, gR_sI, gR_sJ, gR_sIA, Nat.reduceLeDiff, Nat.reduceEqDiff, Nat.reduceLT, Int.reduceLE, Int.reduceLT, Int.reduceEq, zWt_i, zWt_l, zWt_r, zWt_n, W, zWkk W, n2, p2] <;> omega) | omega | fail)) only [if_pos, if_neg, wI_id, zLc_lt, zLc_gt, zLc_eq, zLc_le, zLc_ge, Int.reduceEq, Int.reduceLE, Int.reduceLT, Int.reduceNeg, Int.reduceAdd, Int.reduceMul, Int.reduceSub, not_true_eq_false, not_false_eq_true, reduceIte, zPo_v, zPo_n, zPo_t, zKl_i, zKl_r, zKl_n, zKl_l, gK_sI, gK_sJ, gK_sR, gK_sIA, gK_sJA, gR_sI, gR_sJ, gJ_sI, gI_sJ, gI_sR, gJ_sR, gR_sIA, gJ_sIA, Nat.reduceLeDiff, Nat.reduceEqDiff, and_self, and_true, true_and, and_false, false_and, eX5_deeds_0, eX5_deeds_1, eX5_deeds_2, eX5_deeds_5, eX5_deeds_6, eX5_deeds_9, eX5_deeds_10, eX5_deeds_11, eX5_deeds_13, eX5_deeds_14, eX5_deeds_18, eX5_deeds_19, eX5_deeds_22, eX5_deeds_25, eX5_deeds_26, eX5_deeds_28, eX5_deeds_31, eX5_deeds_34, eX5_deeds_37, eX5_deeds_38, eX5_deeds_39, eX5_deeds_42, eX5_deeds_44, eX5_deeds_45, eX5_deeds_48, eX5_deeds_49, eX5_deeds_50, eX5_deeds_52, eX5_deeds_53, eX5_deeds_56, eX5_deeds_58, eX5_deeds_59, eX5_deeds_62, eX5_deeds_63, eX5_deeds_65, eX5_deeds_68, eX5_deeds_71, eX5_deeds_72, eX5_deeds_75, eX5_deeds_76, eX5_deeds_79, eX5_deeds_80, eX5_deeds_83, eX5_deeds_84, eX5_deeds_86, eX5_deeds_87, eX5_deeds_88, eX5_deeds_89, eX5_deeds_92, eX5_deeds_93, eX5_deeds_in, W, zWkk W, cX_has, c, p0, n1, p1, p5]
      exact k _ _ ⟨by omega, rfl, rfl⟩
    · rw [if_neg c, if_neg c] at k
      simp (disch := (first | (simp only [gK_sI, gK_sJ, gK_sR, gK_sIA, gK_sJA, gR_sI, gR_sJ, gR_sIA, Nat.reduceLeDiff, Nat.reduceEqDiff, Nat.reduceLT, Int.reduceLE, Int.reduceLT, Int.reduceEq, zWt_i, zWt_l, zWt_r, zWt_n, W, zWkk W, n2, p2] <;> omega) | omega | fail)) only [if_pos, if_neg, wI_id, zLc_lt, zLc_gt, zLc_eq, zLc_le, zLc_ge, Int.reduceEq, Int.reduceLE, Int.reduceLT, Int.reduceNeg, Int.reduceAdd, Int.reduceMul, Int.reduceSub, not_true_eq_false, not_false_eq_true, reduceIte, zPo_v, zPo_n, zPo_t, zKl_i, zKl_r, zKl_n, zKl_l, gK_sI, gK_sJ, gK_sR, gK_sIA, gK_sJA, gR_sI, gR_sJ, gJ_sI, gI_sJ, gI_sR, gJ_sR, gR_sIA, gJ_sIA, Nat.reduceLeDiff, Nat.reduceEqDiff, and_self, and_true, true_and, and_false, false_and, eX5_deeds_0, eX5_deeds_1, eX5_deeds_2, eX5_deeds_5, eX5_deeds_6, eX5_deeds_9, eX5_deeds_10, eX5_deeds_11, eX5_deeds_13, eX5_deeds_14, eX5_deeds_18, eX5_deeds_19, eX5_deeds_22, eX5_deeds_25, eX5_deeds_26, eX5_deeds_28, eX5_deeds_31, eX5_deeds_34, eX5_deeds_37, eX5_deeds_38, eX5_deeds_39, eX5_deeds_42, eX5_deeds_44, eX5_deeds_45, eX5_deeds_48, eX5_deeds_49, eX5_deeds_50, eX5_deeds_52, eX5_deeds_53, eX5_deeds_56, eX5_deeds_58, eX5_deeds_59, eX5_deeds_62, eX5_deeds_63, eX5_deeds_65, eX5_deeds_68, eX5_deeds_71, eX5_deeds_72, eX5_deeds_75, eX5_deeds_76, eX5_deeds_79, eX5_deeds_80, eX5_deeds_83, eX5_deeds_84, eX5_deeds_86, eX5_deeds_87, eX5_deeds_88, eX5_deeds_89, eX5_deeds_92, eX5_deeds_93, eX5_deeds_in, W, zWkk W, cX_has, c, p0]
      exact k _ _ ⟨by omega, rfl, rfl⟩
  · rintro _ _ ⟨-, rfl, rfl⟩
    rw [eX5_deeds_16]
    by_cases c1 : fPop set = 1
    · rw [if_pos c1] at hQ
      simp (disch := (first | (simp only [gK_sI, gK_sJ, gK_sR, gK_sIA, gK_sJA, gR_sI, gR_sJ, gR_sIA, Nat.reduceLeDiff, Nat.reduceEqDiff, Nat.reduceLT, Int.reduceLE, Int.reduceLT, Int.reduceEq, zWt_i, zWt_l, zWt_r, zWt_n, W, zWkk W] <;> omega) | omega | fail)) only [if_pos, if_neg, wI_id, zLc_lt, zLc_gt, zLc_eq, zLc_le, zLc_ge, Int.reduceEq, Int.reduceLE, Int.reduceLT, Int.reduceNeg, Int.reduceAdd, Int.reduceMul, Int.reduceSub, not_true_eq_false, not_false_eq_true, reduceIte, zPo_v, zPo_n, zPo_t, zKl_i, zKl_r, zKl_n, zKl_l, gK_sI, gK_sJ, gK_sR, gK_sIA, gK_sJA, gR_sI, gR_sJ, gJ_sI, gI_sJ, gI_sR, gJ_sR, gR_sIA, gJ_sIA, Nat.reduceLeDiff, Nat.reduceEqDiff, and_self, and_true, true_and, and_false, false_and, eX5_deeds_0, eX5_deeds_1, eX5_deeds_2, eX5_deeds_5, eX5_deeds_6, eX5_deeds_9, eX5_deeds_10, eX5_deeds_11, eX5_deeds_13, eX5_deeds_14, eX5_deeds_18, eX5_deeds_19, eX5_deeds_22, eX5_deeds_25, eX5_deeds_26, eX5_deeds_28, eX5_deeds_31, eX5_deeds_34, eX5_deeds_37, eX5_deeds_38, eX5_deeds_39, eX5_deeds_42, eX5_deeds_44, eX5_deeds_45, eX5_deeds_48, eX5_deeds_49, eX5_deeds_50, eX5_deeds_52, eX5_deeds_53, eX5_deeds_56, eX5_deeds_58, eX5_deeds_59, eX5_deeds_62, eX5_deeds_63, eX5_deeds_65, eX5_deeds_68, eX5_deeds_71, eX5_deeds_72, eX5_deeds_75, eX5_deeds_76, eX5_deeds_79, eX5_deeds_80, eX5_deeds_83, eX5_deeds_84, eX5_deeds_86, eX5_deeds_87, eX5_deeds_88, eX5_deeds_89, eX5_deeds_92, eX5_deeds_93, eX5_deeds_in, W, zWkk W, p0, cX_bitCount hb.1 hb.2, c1]
      exact hQ
    · rw [if_neg c1] at hQ
      simp (disch := (first | (simp only [gK_sI, gK_sJ, gK_sR, gK_sIA, gK_sJA, gR_sI, gR_sJ, gR_sIA, Nat.reduceLeDiff, Nat.reduceEqDiff, Nat.reduceLT, Int.reduceLE, Int.reduceLT, Int.reduceEq, zWt_i, zWt_l, zWt_r, zWt_n, W, zWkk W] <;> omega) | omega | fail)) only [if_pos, if_neg, wI_id, zLc_lt, zLc_gt, zLc_eq, zLc_le, zLc_ge, Int.reduceEq, Int.reduceLE, Int.reduceLT, Int.reduceNeg, Int.reduceAdd, Int.reduceMul, Int.reduceSub, not_true_eq_false, not_false_eq_true, reduceIte, zPo_v, zPo_n, zPo_t, zKl_i, zKl_r, zKl_n, zKl_l, gK_sI, gK_sJ, gK_sR, gK_sIA, gK_sJA, gR_sI, gR_sJ, gJ_sI, gI_sJ, gI_sR, gJ_sR, gR_sIA, gJ_sIA, Nat.reduceLeDiff, Nat.reduceEqDiff, and_self, and_true, true_and, and_false, false_and, eX5_deeds_0, eX5_deeds_1, eX5_deeds_2, eX5_deeds_5, eX5_deeds_6, eX5_deeds_9, eX5_deeds_10, eX5_deeds_11, eX5_deeds_13, eX5_deeds_14, eX5_deeds_18, eX5_deeds_19, eX5_deeds_22, eX5_deeds_25, eX5_deeds_26, eX5_deeds_28, eX5_deeds_31, eX5_deeds_34, eX5_deeds_37, eX5_deeds_38, eX5_deeds_39, eX5_deeds_42, eX5_deeds_44, eX5_deeds_45, eX5_deeds_48, eX5_deeds_49, eX5_deeds_50, eX5_deeds_52, eX5_deeds_53, eX5_deeds_56, eX5_deeds_58, eX5_deeds_59, eX5_deeds_62, eX5_deeds_63, eX5_deeds_65, eX5_deeds_68, eX5_deeds_71, eX5_deeds_72, eX5_deeds_75, eX5_deeds_76, eX5_deeds_79, eX5_deeds_80, eX5_deeds_83, eX5_deeds_84, eX5_deeds_86, eX5_deeds_87, eX5_deeds_88, eX5_deeds_89, eX5_deeds_92, eX5_deeds_93, eX5_deeds_in, W, zWkk W, p0, cX_bitCount hb.1 hb.2, c1]
      exact hQ
theorem oM_deeds {s : Int} (P : zMk h) (v : zIv a) (hQ : ∀ k9, Q (zRv (zi (oDeeds a s).1) (zH2 (sI h 113 2 (oDeeds a s).2) a k9))) : zCm mX6_deeds d [zr (some 113), zi s] (zH2 h a f) Q := by
  have P2 : ∀ a f, zMk (zH2 h a f) := fun _ _ => P
  have P3 : ∀ a f x, zMk (zH2 (sI h 113 2 x) a f) := fun _ _ _ => P
  have b0 := (zIgd v).1
  have b1 := (zIgd v).2.1
  have b2 := zIports v
  have b3 := zIships v
  have b4 := zIrule v
  by_cases hc : 0 ≤ s ∧ s < a 3
  · have e : oDeeds a s = (fDe a (fCap a (fLd a s) (a 4)), 0) := if_pos hc
    have hb := fCap_b (ld := fLd a s) (by9 := a 4) (zIgd v)
    simp (disch := (first | (simp only [gK_sI, gK_sJ, gK_sR, gK_sIA, gK_sJA, gR_sI, gR_sJ, gR_sIA, Nat.reduceLeDiff, Nat.reduceEqDiff, Nat.reduceLT, Int.reduceLE, Int.reduceLT, Int.reduceEq, zWt_i, zWt_l, zWt_r, zWt_n, zH2_gK, zH2_mk, P, zMkk P, zMr0 P, zMk0 P] <;> omega) | omega | fail)) only [if_pos, if_neg, wI_id, zLc_lt, zLc_gt, zLc_eq, zLc_le, zLc_ge, Int.reduceEq, Int.reduceLE, Int.reduceLT, Int.reduceNeg, Int.reduceAdd, Int.reduceMul, Int.reduceSub, not_true_eq_false, not_false_eq_true, reduceIte, zPo_v, zPo_n, zPo_t, zKl_i, zKl_r, zKl_n, zKl_l, gK_sI, gK_sJ, gK_sR, gK_sIA, gK_sJA, gR_sI, gR_sJ, gJ_sI, gI_sJ, gI_sR, gJ_sR, gR_sIA, gJ_sIA, Nat.reduceLeDiff, Nat.reduceEqDiff, and_self, and_true, true_and, and_false, false_and, eX6_deeds_0, eX6_deeds_1, eX6_deeds_2, eX6_deeds_5, eX6_deeds_8, eX6_deeds_9, eX6_deeds_10, eX6_deeds_11, eX6_deeds_12, eX6_deeds_13, eX6_deeds_16, eX6_deeds_17, eX6_deeds_18, eX6_deeds_21, eX6_deeds_24, eX6_deeds_27, eX6_deeds_30, eX6_deeds_31, eX6_deeds_32, eX6_deeds_35, eX6_deeds_in, zH2_gK, zH2_gR, zH2_at, zH2_sI, zU_ne, P, zMkk P, zMr0 P, zMk0 P, cM_isShip (P2 _ _)]
    refine kM_captainsOf P v hc.1 (by omega) (fun g => ?_)
    simp (disch := (first | (simp only [gK_sI, gK_sJ, gK_sR, gK_sIA, gK_sJA, gR_sI, gR_sJ, gR_sIA, Nat.reduceLeDiff, Nat.reduceEqDiff, Nat.reduceLT, Int.reduceLE, Int.reduceLT, Int.reduceEq, zWt_i, zWt_l, zWt_r, zWt_n, zH2_gK, zH2_mk, P, zMkk P, zMr0 P, zMk0 P] <;> omega) | omega | fail)) only [if_pos, if_neg, wI_id, zLc_lt, zLc_gt, zLc_eq, zLc_le, zLc_ge, Int.reduceEq, Int.reduceLE, Int.reduceLT, Int.reduceNeg, Int.reduceAdd, Int.reduceMul, Int.reduceSub, not_true_eq_false, not_false_eq_true, reduceIte, zPo_v, zPo_n, zPo_t, zKl_i, zKl_r, zKl_n, zKl_l, gK_sI, gK_sJ, gK_sR, gK_sIA, gK_sJA, gR_sI, gR_sJ, gJ_sI, gI_sJ, gI_sR, gJ_sR, gR_sIA, gJ_sIA, Nat.reduceLeDiff, Nat.reduceEqDiff, and_self, and_true, true_and, and_false, false_and, eX6_deeds_0, eX6_deeds_1, eX6_deeds_2, eX6_deeds_5, eX6_deeds_8, eX6_deeds_9, eX6_deeds_10, eX6_deeds_11, eX6_deeds_12, eX6_deeds_13, eX6_deeds_16, eX6_deeds_17, eX6_deeds_18, eX6_deeds_21, eX6_deeds_24, eX6_deeds_27, eX6_deeds_30, eX6_deeds_31, eX6_deeds_32, eX6_deeds_35, eX6_deeds_in, zH2_gK, zH2_gR, zH2_at, zH2_sI, zU_ne, P, zMkk P, zMr0 P, zMk0 P]
    refine kM_deedsBy P v hb.1 hb.2 ?_
    simp (disch := (first | (simp only [gK_sI, gK_sJ, gK_sR, gK_sIA, gK_sJA, gR_sI, gR_sJ, gR_sIA, Nat.reduceLeDiff, Nat.reduceEqDiff, Nat.reduceLT, Int.reduceLE, Int.reduceLT, Int.reduceEq, zWt_i, zWt_l, zWt_r, zWt_n, zH2_gK, zH2_mk, P, zMkk P, zMr0 P, zMk0 P] <;> omega) | omega | fail)) only [if_pos, if_neg, wI_id, zLc_lt, zLc_gt, zLc_eq, zLc_le, zLc_ge, Int.reduceEq, Int.reduceLE, Int.reduceLT, Int.reduceNeg, Int.reduceAdd, Int.reduceMul, Int.reduceSub, not_true_eq_false, not_false_eq_true, reduceIte, zPo_v, zPo_n, zPo_t, zKl_i, zKl_r, zKl_n, zKl_l, gK_sI, gK_sJ, gK_sR, gK_sIA, gK_sJA, gR_sI, gR_sJ, gJ_sI, gI_sJ, gI_sR, gJ_sR, gR_sIA, gJ_sIA, Nat.reduceLeDiff, Nat.reduceEqDiff, and_self, and_true, true_and, and_false, false_and, eX6_deeds_0, eX6_deeds_1, eX6_deeds_2, eX6_deeds_5, eX6_deeds_8, eX6_deeds_9, eX6_deeds_10, eX6_deeds_11, eX6_deeds_12, eX6_deeds_13, eX6_deeds_16, eX6_deeds_17, eX6_deeds_18, eX6_deeds_21, eX6_deeds_24, eX6_deeds_27, eX6_deeds_30, eX6_deeds_31, eX6_deeds_32, eX6_deeds_35, eX6_deeds_in, zH2_gK, zH2_gR, zH2_at, zH2_sI, zU_ne, P, zMkk P, zMr0 P, zMk0 P, cM_gives (P2 _ _), zH2_sIne]
    exact zFm hQ e g
  · have e : oDeeds a s = (-1, 1) := if_neg hc
    have h9 := zFm hQ e f
    simp (disch := (first | (simp only [gK_sI, gK_sJ, gK_sR, gK_sIA, gK_sJA, gR_sI, gR_sJ, gR_sIA, Nat.reduceLeDiff, Nat.reduceEqDiff, Nat.reduceLT, Int.reduceLE, Int.reduceLT, Int.reduceEq, zWt_i, zWt_l, zWt_r, zWt_n, zH2_gK, zH2_mk, P, zMkk P, zMr0 P, zMk0 P] <;> omega) | omega | fail)) only [if_pos, if_neg, wI_id, zLc_lt, zLc_gt, zLc_eq, zLc_le, zLc_ge, Int.reduceEq, Int.reduceLE, Int.reduceLT, Int.reduceNeg, Int.reduceAdd, Int.reduceMul, Int.reduceSub, not_true_eq_false, not_false_eq_true, reduceIte, zPo_v, zPo_n, zPo_t, zKl_i, zKl_r, zKl_n, zKl_l, gK_sI, gK_sJ, gK_sR, gK_sIA, gK_sJA, gR_sI, gR_sJ, gJ_sI, gI_sJ, gI_sR, gJ_sR, gR_sIA, gJ_sIA, Nat.reduceLeDiff, Nat.reduceEqDiff, and_self, and_true, true_and, and_false, false_and, eX6_deeds_0, eX6_deeds_1, eX6_deeds_2, eX6_deeds_5, eX6_deeds_8, eX6_deeds_9, eX6_deeds_10, eX6_deeds_11, eX6_deeds_12, eX6_deeds_13, eX6_deeds_16, eX6_deeds_17, eX6_deeds_18, eX6_deeds_21, eX6_deeds_24, eX6_deeds_27, eX6_deeds_30, eX6_deeds_31, eX6_deeds_32, eX6_deeds_35, eX6_deeds_in, zH2_gK, zH2_gR, zH2_at, zH2_sI, zU_ne, P, zMkk P, zMr0 P, zMk0 P, cM_isShip (P2 _ _), cM_refuse (P2 _ _), zH2_sIne]
    (repeat' split) <;> first | exact h9 | (exfalso; omega)
theorem oM_lawful {s x : Int} (P : zMk h) (v : zIv a) (hQ : ∀ k9, Q (zRv (zi (oLawful a s x).1) (zH2 (sI h 113 2 (oLawful a s x).2) a k9))) : zCm mX6_lawful d [zr (some 113), zi s, zi x] (zH2 h a f) Q := by
  have P2 : ∀ a f, zMk (zH2 h a f) := fun _ _ => P
  have P3 : ∀ a f x, zMk (zH2 (sI h 113 2 x) a f) := fun _ _ _ => P
  have b0 := (zIgd v).1
  have b1 := (zIgd v).2.1
  have b2 := zIports v
  have b3 := zIships v
  have b4 := zIrule v
  by_cases hc : (0 ≤ s ∧ s < a 3) ∧ (0 ≤ x ∧ x ≤ 7)
  · have e : oLawful a s x = (zAnd (zShr (fDe a (fCap a (fLd a s) (a 4))) x) 1, 0) := if_pos hc
    have hb := fCap_b (ld := fLd a s) (by9 := a 4) (zIgd v)
    simp (disch := (first | (simp only [gK_sI, gK_sJ, gK_sR, gK_sIA, gK_sJA, gR_sI, gR_sJ, gR_sIA, Nat.reduceLeDiff, Nat.reduceEqDiff, Nat.reduceLT, Int.reduceLE, Int.reduceLT, Int.reduceEq, zWt_i, zWt_l, zWt_r, zWt_n, zH2_gK, zH2_mk, P, zMkk P, zMr0 P, zMk0 P] <;> omega) | omega | fail)) only [if_pos, if_neg, wI_id, zLc_lt, zLc_gt, zLc_eq, zLc_le, zLc_ge, Int.reduceEq, Int.reduceLE, Int.reduceLT, Int.reduceNeg, Int.reduceAdd, Int.reduceMul, Int.reduceSub, not_true_eq_false, not_false_eq_true, reduceIte, zPo_v, zPo_n, zPo_t, zKl_i, zKl_r, zKl_n, zKl_l, gK_sI, gK_sJ, gK_sR, gK_sIA, gK_sJA, gR_sI, gR_sJ, gJ_sI, gI_sJ, gI_sR, gJ_sR, gR_sIA, gJ_sIA, Nat.reduceLeDiff, Nat.reduceEqDiff, and_self, and_true, true_and, and_false, false_and, eX6_lawful_0, eX6_lawful_1, eX6_lawful_2, eX6_lawful_5, eX6_lawful_8, eX6_lawful_9, eX6_lawful_12, eX6_lawful_13, eX6_lawful_15, eX6_lawful_18, eX6_lawful_19, eX6_lawful_20, eX6_lawful_21, eX6_lawful_22, eX6_lawful_23, eX6_lawful_26, eX6_lawful_27, eX6_lawful_28, eX6_lawful_31, eX6_lawful_34, eX6_lawful_35, eX6_lawful_36, eX6_lawful_37, eX6_lawful_38, eX6_lawful_41, eX6_lawful_44, eX6_lawful_45, eX6_lawful_46, eX6_lawful_49, eX6_lawful_in, zH2_gK, zH2_gR, zH2_at, zH2_sI, zU_ne, P, zMkk P, zMr0 P, zMk0 P, cM_isShip (P2 _ _)]
    refine kM_captainsOf P v hc.1.1 (by omega) (fun g => ?_)
    simp (disch := (first | (simp only [gK_sI, gK_sJ, gK_sR, gK_sIA, gK_sJA, gR_sI, gR_sJ, gR_sIA, Nat.reduceLeDiff, Nat.reduceEqDiff, Nat.reduceLT, Int.reduceLE, Int.reduceLT, Int.reduceEq, zWt_i, zWt_l, zWt_r, zWt_n, zH2_gK, zH2_mk, P, zMkk P, zMr0 P, zMk0 P] <;> omega) | omega | fail)) only [if_pos, if_neg, wI_id, zLc_lt, zLc_gt, zLc_eq, zLc_le, zLc_ge, Int.reduceEq, Int.reduceLE, Int.reduceLT, Int.reduceNeg, Int.reduceAdd, Int.reduceMul, Int.reduceSub, not_true_eq_false, not_false_eq_true, reduceIte, zPo_v, zPo_n, zPo_t, zKl_i, zKl_r, zKl_n, zKl_l, gK_sI, gK_sJ, gK_sR, gK_sIA, gK_sJA, gR_sI, gR_sJ, gJ_sI, gI_sJ, gI_sR, gJ_sR, gR_sIA, gJ_sIA, Nat.reduceLeDiff, Nat.reduceEqDiff, and_self, and_true, true_and, and_false, false_and, eX6_lawful_0, eX6_lawful_1, eX6_lawful_2, eX6_lawful_5, eX6_lawful_8, eX6_lawful_9, eX6_lawful_12, eX6_lawful_13, eX6_lawful_15, eX6_lawful_18, eX6_lawful_19, eX6_lawful_20, eX6_lawful_21, eX6_lawful_22, eX6_lawful_23, eX6_lawful_26, eX6_lawful_27, eX6_lawful_28, eX6_lawful_31, eX6_lawful_34, eX6_lawful_35, eX6_lawful_36, eX6_lawful_37, eX6_lawful_38, eX6_lawful_41, eX6_lawful_44, eX6_lawful_45, eX6_lawful_46, eX6_lawful_49, eX6_lawful_in, zH2_gK, zH2_gR, zH2_at, zH2_sI, zU_ne, P, zMkk P, zMr0 P, zMk0 P]
    refine kM_deedsBy P v hb.1 hb.2 ?_
    simp (disch := (first | (simp only [gK_sI, gK_sJ, gK_sR, gK_sIA, gK_sJA, gR_sI, gR_sJ, gR_sIA, Nat.reduceLeDiff, Nat.reduceEqDiff, Nat.reduceLT, Int.reduceLE, Int.reduceLT, Int.reduceEq, zWt_i, zWt_l, zWt_r, zWt_n, zH2_gK, zH2_mk, P, zMkk P, zMr0 P, zMk0 P] <;> omega) | omega | fail)) only [if_pos, if_neg, wI_id, zLc_lt, zLc_gt, zLc_eq, zLc_le, zLc_ge, Int.reduceEq, Int.reduceLE, Int.reduceLT, Int.reduceNeg, Int.reduceAdd, Int.reduceMul, Int.reduceSub, not_true_eq_false, not_false_eq_true, reduceIte, zPo_v, zPo_n, zPo_t, zKl_i, zKl_r, zKl_n, zKl_l, gK_sI, gK_sJ, gK_sR, gK_sIA, gK_sJA, gR_sI, gR_sJ, gJ_sI, gI_sJ, gI_sR, gJ_sR, gR_sIA, gJ_sIA, Nat.reduceLeDiff, Nat.reduceEqDiff, and_self, and_true, true_and, and_false, false_and, eX6_lawful_0, eX6_lawful_1, eX6_lawful_2, eX6_lawful_5, eX6_lawful_8, eX6_lawful_9, eX6_lawful_12, eX6_lawful_13, eX6_lawful_15, eX6_lawful_18, eX6_lawful_19, eX6_lawful_20, eX6_lawful_21, eX6_lawful_22, eX6_lawful_23, eX6_lawful_26, eX6_lawful_27, eX6_lawful_28, eX6_lawful_31, eX6_lawful_34, eX6_lawful_35, eX6_lawful_36, eX6_lawful_37, eX6_lawful_38, eX6_lawful_41, eX6_lawful_44, eX6_lawful_45, eX6_lawful_46, eX6_lawful_49, eX6_lawful_in, zH2_gK, zH2_gR, zH2_at, zH2_sI, zU_ne, P, zMkk P, zMr0 P, zMk0 P, cM_gives (P2 _ _), zH2_sIne]
    exact zFm hQ e g
  · have e : oLawful a s x = (-1, 1) := if_neg hc
    have h9 := zFm hQ e f
    simp (disch := (first | (simp only [gK_sI, gK_sJ, gK_sR, gK_sIA, gK_sJA, gR_sI, gR_sJ, gR_sIA, Nat.reduceLeDiff, Nat.reduceEqDiff, Nat.reduceLT, Int.reduceLE, Int.reduceLT, Int.reduceEq, zWt_i, zWt_l, zWt_r, zWt_n, zH2_gK, zH2_mk, P, zMkk P, zMr0 P, zMk0 P] <;> omega) | omega | fail)) only [wI_id, zLc_lt, zLc_gt, zLc_eq, zLc_le, zLc_ge, Int.reduceEq, Int.reduceLE, Int.reduceLT, Int.reduceNeg, Int.reduceAdd, Int.reduceMul, Int.reduceSub, not_true_eq_false, not_false_eq_true, reduceIte, zPo_v, zPo_n, zPo_t, zKl_i, zKl_r, zKl_n, zKl_l, gK_sI, gK_sJ, gK_sR, gK_sIA, gK_sJA, gR_sI, gR_sJ, gJ_sI, gI_sJ, gI_sR, gJ_sR, gR_sIA, gJ_sIA, Nat.reduceLeDiff, Nat.reduceEqDiff, and_self, and_true, true_and, and_false, false_and, eX6_lawful_0, eX6_lawful_1, eX6_lawful_2, eX6_lawful_5, eX6_lawful_8, eX6_lawful_9, eX6_lawful_12, eX6_lawful_13, eX6_lawful_15, eX6_lawful_19, eX6_lawful_20, eX6_lawful_21, eX6_lawful_22, eX6_lawful_23, eX6_lawful_26, eX6_lawful_27, eX6_lawful_28, eX6_lawful_31, eX6_lawful_34, eX6_lawful_35, eX6_lawful_36, eX6_lawful_37, eX6_lawful_38, eX6_lawful_41, eX6_lawful_44, eX6_lawful_45, eX6_lawful_46, eX6_lawful_49, eX6_lawful_in, zH2_gK, zH2_gR, zH2_at, zH2_sI, zU_ne, P, zMkk P, zMr0 P, zMk0 P, cM_isShip (P2 _ _), cM_refuse (P2 _ _), zH2_sIne]
    (repeat' split) <;> first | exact h9 | (exfalso; omega)
theorem oX_deeds {s : Int} (K : zXk h) (v : zIv a) (P : zPw h 75 a nm) (hQ : ∀ h', zPw h' 75 a nm → zSx h h' → gI h' 65 7 = (oDeeds a s).2 → Q (zRv (zi (oDeeds a s).1) h')) : zCm mX0_deeds d [zr (some 65), zi s] h Q := by
  have W := P.2.1
  have e2 : ∀ x, zXk (sI h 65 7 x) := fun _ => K
  have P9 : ∀ x, zPw (sI h 65 7 x) 75 a nm := fun x => zPw_st v P K
  have S9 : ∀ x, zSx h (sI h 65 7 x) := fun x => zSx_st zSx_rf
  have b0 := (zIgd v).1
  have b1 := (zIgd v).2.1
  have b2 := zIports v
  have b3 := zIships v
  have b4 := zIrule v
  by_cases hc : 0 ≤ s ∧ s < a 3
  · have e : oDeeds a s = (fDe a (fCap a (fLd a s) (a 4)), 0) := if_pos hc
    simp (disch := (first | (simp only [gK_sI, gK_sJ, gK_sR, gK_sIA, gK_sJA, gR_sI, gR_sJ, gR_sIA, Nat.reduceLeDiff, Nat.reduceEqDiff, Nat.reduceLT, Int.reduceLE, Int.reduceLT, Int.reduceEq, zWt_i, zWt_l, zWt_r, zWt_n, K, zXkk K, zXh0 K, W, zWkk W, e2] <;> omega) | omega | fail)) only [if_pos, if_neg, wI_id, zLc_lt, zLc_gt, zLc_eq, zLc_le, zLc_ge, Int.reduceEq, Int.reduceLE, Int.reduceLT, Int.reduceNeg, Int.reduceAdd, Int.reduceMul, Int.reduceSub, not_true_eq_false, not_false_eq_true, reduceIte, zPo_v, zPo_n, zPo_t, zKl_i, zKl_r, zKl_n, zKl_l, gK_sI, gK_sJ, gK_sR, gK_sIA, gK_sJA, gR_sI, gR_sJ, gJ_sI, gI_sJ, gI_sR, gJ_sR, gR_sIA, gJ_sIA, Nat.reduceLeDiff, Nat.reduceEqDiff, and_self, and_true, true_and, and_false, false_and, eX0_deeds_0, eX0_deeds_1, eX0_deeds_2, eX0_deeds_3, eX0_deeds_6, eX0_deeds_9, eX0_deeds_10, eX0_deeds_13, eX0_deeds_14, eX0_deeds_17, eX0_deeds_18, eX0_deeds_21, eX0_deeds_24, eX0_deeds_25, eX0_deeds_28, eX0_deeds_29, eX0_deeds_32, eX0_deeds_33, eX0_deeds_36, tX0_deeds, eX0_deeds_in, K, zXkk K, zXh0 K, W, zWkk W, kX0_isShip K v P, kX0_at, gI_sI_ne, gI_sI_eq, zU_eq]
    refine kX_deeds v (P9 0) hc.1 (by omega) (fun h1 P1 S1 => ?_)
    simp (disch := (first | (simp only [gK_sI, gK_sJ, gK_sR, gK_sIA, gK_sJA, gR_sI, gR_sJ, gR_sIA, Nat.reduceLeDiff, Nat.reduceEqDiff, Nat.reduceLT, Int.reduceLE, Int.reduceLT, Int.reduceEq, zWt_i, zWt_l, zWt_r, zWt_n] <;> omega) | omega | fail)) only [if_pos, if_neg, wI_id, zLc_lt, zLc_gt, zLc_eq, zLc_le, zLc_ge, Int.reduceEq, Int.reduceLE, Int.reduceLT, Int.reduceNeg, Int.reduceAdd, Int.reduceMul, Int.reduceSub, not_true_eq_false, not_false_eq_true, reduceIte, zPo_v, zPo_n, zPo_t, zKl_i, zKl_r, zKl_n, zKl_l, gK_sI, gK_sJ, gK_sR, gK_sIA, gK_sJA, gR_sI, gR_sJ, gJ_sI, gI_sJ, gI_sR, gJ_sR, gR_sIA, gJ_sIA, Nat.reduceLeDiff, Nat.reduceEqDiff, and_self, and_true, true_and, and_false, false_and, eX0_deeds_0, eX0_deeds_1, eX0_deeds_2, eX0_deeds_3, eX0_deeds_6, eX0_deeds_9, eX0_deeds_10, eX0_deeds_13, eX0_deeds_14, eX0_deeds_17, eX0_deeds_18, eX0_deeds_21, eX0_deeds_24, eX0_deeds_25, eX0_deeds_28, eX0_deeds_29, eX0_deeds_32, eX0_deeds_33, eX0_deeds_36, tX0_deeds, eX0_deeds_in]
    exact zFx hQ P1 (zSx_tr (S9 0) (zSx_w S1)) (by rw [zSw65 S1 (by decide), gI_sI_eq, zU_eq]) e
  · have e : oDeeds a s = (-1, 1) := if_neg hc
    have h9 := zFxs hQ v K P zSx_rf e
    simp (disch := (first | (simp only [gK_sI, gK_sJ, gK_sR, gK_sIA, gK_sJA, gR_sI, gR_sJ, gR_sIA, Nat.reduceLeDiff, Nat.reduceEqDiff, Nat.reduceLT, Int.reduceLE, Int.reduceLT, Int.reduceEq, zWt_i, zWt_l, zWt_r, zWt_n, K, zXkk K, zXh0 K, W, zWkk W, e2] <;> omega) | omega | fail)) only [if_pos, if_neg, wI_id, zLc_lt, zLc_gt, zLc_eq, zLc_le, zLc_ge, Int.reduceEq, Int.reduceLE, Int.reduceLT, Int.reduceNeg, Int.reduceAdd, Int.reduceMul, Int.reduceSub, not_true_eq_false, not_false_eq_true, reduceIte, zPo_v, zPo_n, zPo_t, zKl_i, zKl_r, zKl_n, zKl_l, gK_sI, gK_sJ, gK_sR, gK_sIA, gK_sJA, gR_sI, gR_sJ, gJ_sI, gI_sJ, gI_sR, gJ_sR, gR_sIA, gJ_sIA, Nat.reduceLeDiff, Nat.reduceEqDiff, and_self, and_true, true_and, and_false, false_and, eX0_deeds_0, eX0_deeds_1, eX0_deeds_2, eX0_deeds_3, eX0_deeds_6, eX0_deeds_9, eX0_deeds_10, eX0_deeds_13, eX0_deeds_14, eX0_deeds_17, eX0_deeds_18, eX0_deeds_21, eX0_deeds_24, eX0_deeds_25, eX0_deeds_28, eX0_deeds_29, eX0_deeds_32, eX0_deeds_33, eX0_deeds_36, tX0_deeds, eX0_deeds_in, K, zXkk K, zXh0 K, W, zWkk W, kX0_isShip K v P, gI_sI_ne, gI_sI_eq, zU_eq]
    (repeat' split) <;> first | exact h9 | (exfalso; omega)
theorem oX_lawful {s x : Int} (K : zXk h) (v : zIv a) (P : zPw h 75 a nm) (hQ : ∀ h', zPw h' 75 a nm → zSx h h' → gI h' 65 7 = (oLawful a s x).2 → Q (zRv (zi (oLawful a s x).1) h')) : zCm mX0_lawful d [zr (some 65), zi s, zi x] h Q := by
  have W := P.2.1
  have e2 : ∀ x, zXk (sI h 65 7 x) := fun _ => K
  have P9 : ∀ x, zPw (sI h 65 7 x) 75 a nm := fun x => zPw_st v P K
  have S9 : ∀ x, zSx h (sI h 65 7 x) := fun x => zSx_st zSx_rf
  have b0 := (zIgd v).1
  have b1 := (zIgd v).2.1
  have b2 := zIports v
  have b3 := zIships v
  have b4 := zIrule v
  by_cases hc : (0 ≤ s ∧ s < a 3) ∧ (0 ≤ x ∧ x ≤ 7)
  · have e : oLawful a s x = (zAnd (zShr (fDe a (fCap a (fLd a s) (a 4))) x) 1, 0) := if_pos hc
    simp (disch := (first | (simp only [gK_sI, gK_sJ, gK_sR, gK_sIA, gK_sJA, gR_sI, gR_sJ, gR_sIA, Nat.reduceLeDiff, Nat.reduceEqDiff, Nat.reduceLT, Int.reduceLE, Int.reduceLT, Int.reduceEq, zWt_i, zWt_l, zWt_r, zWt_n, K, zXkk K, zXh0 K, W, zWkk W, e2] <;> omega) | omega | fail)) only [if_pos, if_neg, wI_id, zLc_lt, zLc_gt, zLc_eq, zLc_le, zLc_ge, Int.reduceEq, Int.reduceLE, Int.reduceLT, Int.reduceNeg, Int.reduceAdd, Int.reduceMul, Int.reduceSub, not_true_eq_false, not_false_eq_true, reduceIte, zPo_v, zPo_n, zPo_t, zKl_i, zKl_r, zKl_n, zKl_l, gK_sI, gK_sJ, gK_sR, gK_sIA, gK_sJA, gR_sI, gR_sJ, gJ_sI, gI_sJ, gI_sR, gJ_sR, gR_sIA, gJ_sIA, Nat.reduceLeDiff, Nat.reduceEqDiff, and_self, and_true, true_and, and_false, false_and, eX0_lawful_0, eX0_lawful_1, eX0_lawful_2, eX0_lawful_3, eX0_lawful_6, eX0_lawful_9, eX0_lawful_10, eX0_lawful_11, eX0_lawful_12, eX0_lawful_15, eX0_lawful_18, eX0_lawful_21, eX0_lawful_22, eX0_lawful_25, eX0_lawful_26, eX0_lawful_29, eX0_lawful_30, eX0_lawful_33, eX0_lawful_36, eX0_lawful_37, eX0_lawful_40, eX0_lawful_41, eX0_lawful_44, eX0_lawful_45, eX0_lawful_48, eX0_lawful_49, eX0_lawful_50, eX0_lawful_51, eX0_lawful_52, tX0_lawful, eX0_lawful_in, K, zXkk K, zXh0 K, W, zWkk W, kX0_isShip K v P, kX0_isIn, kX0_at, gI_sI_ne, gI_sI_eq, zU_eq]
    refine kX_deeds v (P9 0) hc.1.1 (by omega) (fun h1 P1 S1 => ?_)
    simp (disch := (first | (simp only [gK_sI, gK_sJ, gK_sR, gK_sIA, gK_sJA, gR_sI, gR_sJ, gR_sIA, Nat.reduceLeDiff, Nat.reduceEqDiff, Nat.reduceLT, Int.reduceLE, Int.reduceLT, Int.reduceEq, zWt_i, zWt_l, zWt_r, zWt_n] <;> omega) | omega | fail)) only [if_pos, if_neg, wI_id, zLc_lt, zLc_gt, zLc_eq, zLc_le, zLc_ge, Int.reduceEq, Int.reduceLE, Int.reduceLT, Int.reduceNeg, Int.reduceAdd, Int.reduceMul, Int.reduceSub, not_true_eq_false, not_false_eq_true, reduceIte, zPo_v, zPo_n, zPo_t, zKl_i, zKl_r, zKl_n, zKl_l, gK_sI, gK_sJ, gK_sR, gK_sIA, gK_sJA, gR_sI, gR_sJ, gJ_sI, gI_sJ, gI_sR, gJ_sR, gR_sIA, gJ_sIA, Nat.reduceLeDiff, Nat.reduceEqDiff, and_self, and_true, true_and, and_false, false_and, eX0_lawful_0, eX0_lawful_1, eX0_lawful_2, eX0_lawful_3, eX0_lawful_6, eX0_lawful_9, eX0_lawful_10, eX0_lawful_11, eX0_lawful_12, eX0_lawful_15, eX0_lawful_18, eX0_lawful_21, eX0_lawful_22, eX0_lawful_25, eX0_lawful_26, eX0_lawful_29, eX0_lawful_30, eX0_lawful_33, eX0_lawful_36, eX0_lawful_37, eX0_lawful_40, eX0_lawful_41, eX0_lawful_44, eX0_lawful_45, eX0_lawful_48, eX0_lawful_49, eX0_lawful_50, eX0_lawful_51, eX0_lawful_52, tX0_lawful, eX0_lawful_in]
    exact zFx hQ P1 (zSx_tr (S9 0) (zSx_w S1)) (by rw [zSw65 S1 (by decide), gI_sI_eq, zU_eq]) e
  · have e : oLawful a s x = (-1, 1) := if_neg hc
    have h9 := zFxs hQ v K P zSx_rf e
    simp (disch := (first | (simp only [gK_sI, gK_sJ, gK_sR, gK_sIA, gK_sJA, gR_sI, gR_sJ, gR_sIA, Nat.reduceLeDiff, Nat.reduceEqDiff, Nat.reduceLT, Int.reduceLE, Int.reduceLT, Int.reduceEq, zWt_i, zWt_l, zWt_r, zWt_n, K, zXkk K, zXh0 K, W, zWkk W, e2] <;> omega) | omega | fail)) only [wI_id, zLc_lt, zLc_gt, zLc_eq, zLc_le, zLc_ge, Int.reduceEq, Int.reduceLE, Int.reduceLT, Int.reduceNeg, Int.reduceAdd, Int.reduceMul, Int.reduceSub, not_true_eq_false, not_false_eq_true, reduceIte, zPo_v, zPo_n, zPo_t, zKl_i, zKl_r, zKl_n, zKl_l, gK_sI, gK_sJ, gK_sR, gK_sIA, gK_sJA, gR_sI, gR_sJ, gJ_sI, gI_sJ, gI_sR, gJ_sR, gR_sIA, gJ_sIA, Nat.reduceLeDiff, Nat.reduceEqDiff, and_self, and_true, true_and, and_false, false_and, eX0_lawful_0, eX0_lawful_1, eX0_lawful_2, eX0_lawful_3, eX0_lawful_6, eX0_lawful_9, eX0_lawful_10, eX0_lawful_11, eX0_lawful_12, eX0_lawful_15, eX0_lawful_18, eX0_lawful_21, eX0_lawful_22, eX0_lawful_25, eX0_lawful_26, eX0_lawful_29, eX0_lawful_30, eX0_lawful_33, eX0_lawful_36, eX0_lawful_37, eX0_lawful_40, eX0_lawful_41, eX0_lawful_44, eX0_lawful_45, eX0_lawful_48, eX0_lawful_49, eX0_lawful_50, eX0_lawful_51, eX0_lawful_52, tX0_lawful, eX0_lawful_in, K, zXkk K, zXh0 K, W, zWkk W, kX0_isShip K v P, kX0_isIn, gI_sI_ne, gI_sI_eq, zU_eq]
    (repeat' split) <;> first | exact h9 | (exfalso; omega)
end O5
