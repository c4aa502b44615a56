/-! ===== THE REFERENCE, 4: what is done ===== -/
set_option maxRecDepth 100000
/-- the heap with another row 'at' and another load -/
def zH2 (h : zHp) (a f : Int → Int) : zHp := sIA (sIA h 114 a) 122 f
section H2
variable {h : zHp} {a f g : Int → Int} {b : Nat} {j v : Int}
theorem sIA_comm {b c : Nat} (e : b ≠ c) : sIA (sIA h b f) c g = sIA (sIA h c g) b f := by
  unfold sIA
  dsimp only
  congr 1
  congr 1
  congr 1
  funext x
  by_cases e1 : x = c
  · subst e1
    simp [Ne.symm e]
  · simp [e1]
theorem zH2_gK : gK (zH2 h a f) = gK h := rfl
theorem zH2_gR : gR (zH2 h a f) = gR h := rfl
theorem zH2_gJ : gJ (zH2 h a f) = gJ h := rfl
theorem zH2_at : gI (zH2 h a f) 114 = a := (gI_sIA_ne (by decide)).trans gI_sIA_eq
theorem zH2_ld : gI (zH2 h a f) 122 = f := gI_sIA_eq
theorem zH2_ne (e : b ≠ 114) (e2 : b ≠ 122) : gI (zH2 h a f) b = gI h b := (gI_sIA_ne e2).trans (gI_sIA_ne e)
theorem zH2_id : zH2 h (gI h 114) (gI h 122) = h := by
  unfold zH2
  rw [sIA_id]
  exact sIA_id
theorem zH2_sld : sIA (zH2 h a f) 122 g = zH2 h a g := sIA2
theorem zH2_sat : sIA (zH2 h a f) 114 g = zH2 h g f := by
  unfold zH2
  rw [sIA_comm (by decide), sIA2]
theorem zH2_sI : sI (zH2 h a f) 114 j v = zH2 h (zU a j v) f := by
  show sIA (zH2 h a f) 114 (zU (gI (zH2 h a f) 114) j v) = _
  rw [zH2_sat, zH2_at]
theorem zH2_sIne (e : b ≠ 114) (e2 : b ≠ 122) : sI (zH2 h a f) b j v = zH2 (sI h b j v) a f := by
  show sIA (zH2 h a f) b (zU (gI (zH2 h a f) b) j v) = _
  rw [zH2_ne e e2]
  unfold zH2
  rw [sIA_comm (Ne.symm e2), sIA_comm (Ne.symm e)]
  rfl
theorem zH2_sIAne (e : b ≠ 114) (e2 : b ≠ 122) : sIA (zH2 h a f) b g = zH2 (sIA h b g) a f := by
  unfold zH2
  rw [sIA_comm (Ne.symm e2), sIA_comm (Ne.symm e)]
theorem zH2_mk : zMk (zH2 h a f) ↔ zMk h := Iff.rfl
theorem zH2_2 {a2 f2 : Int → Int} : zH2 (zH2 h a f) a2 f2 = zH2 h a2 f2 := by
  show sIA (sIA (zH2 h a f) 114 a2) 122 f2 = _
  rw [zH2_sat, zH2_sld]
end H2
/-- the flag of a ship -/
def fFl (a : Int → Int) (s : Int) : Int := fOne (fCap a (fLd a s) (a 4))
theorem fFl_b {a : Int → Int} {s : Int} : -1 ≤ fFl a s ∧ fFl a s < 6 := fOne_b
section K4
variable {d : Nat} {h : zHp} {Q : zRs → Prop} {a f : Int → Int}
theorem kM_flagOf2 {s : Int} (P : zMk h) (v : zIv a) (h0 : 0 ≤ s) (h1 : s < 4) (hQ : ∀ g, zEq8 g (fLd a s) → Q (zRv (zi (fFl a s)) (zH2 h a g))) : zCm mX6_flagOf d [zr (some 113), zi s] (zH2 h a f) Q := by
  refine cM_flagOf (zH2_mk.mpr P) (by rw [zH2_at]; exact zIgd v) (by rw [zH2_at]; exact zLd_iv v h0 h1) h0 h1 (fun g hg => ?_)
  rw [zH2_at] at hg
  rw [zH2_at, zH2_sld]
  exact hQ g hg
theorem kM_flagOf {s : Int} (P : zMk h) (v : zIv a) (h0 : 0 ≤ s) (h1 : s < 4) (hQ : ∀ g, Q (zRv (zi (fFl a s)) (zH2 h a g))) : zCm mX6_flagOf d [zr (some 113), zi s] (zH2 h a f) Q := kM_flagOf2 P v h0 h1 (fun g _ => hQ g)
theorem kM_tonsOf {s : Int} (P : zMk h) (v : zIv a) (h0 : 0 ≤ s) (h1 : s < 4) (hQ : ∀ g, Q (zRv (zi (fTons (fLd a s))) (zH2 h a g))) : zCm mX6_tonsOf d [zr (some 113), zi s] (zH2 h a f) Q := by
  refine cM_tonsOf (zH2_mk.mpr P) (by rw [zH2_at]; exact zLd_iv v h0 h1) h0 h1 (fun g => ?_)
  rw [zH2_at, zH2_sld]
  exact hQ g
theorem kM_roomOf {s : Int} (P : zMk h) (v : zIv a) (h0 : 0 ≤ s) (h1 : s < a 3) (hQ : ∀ g, Q (zRv (zi (a (149 + 15 * s) - fTons (fLd a s))) (zH2 h a g))) : zCm mX6_roomOf d [zr (some 113), zi s] (zH2 h a f) Q := by
  have h4 := (zIships v).2
  have hh := zIhold v s h0 h1
  refine cM_roomOf (zH2_mk.mpr P) (by rw [zH2_at]; exact zLd_iv v h0 (by omega)) (by rw [zH2_at]; omega) h0 (by omega) (fun g => ?_)
  rw [zH2_at, zH2_sld]
  exact hQ g
theorem kM_loadsIn {s n : Int} (P : zMk h) (v : zIv a) (h0 : 0 ≤ s) (h1 : s < 4) (n0 : 0 ≤ n) (n1 : n ≤ 1000) (hQ : ∀ g, zEq8 g (fLk a n (fLd a s)) → Q (zRn (zH2 h a g))) : zCm mX6_loadsIn d [zr (some 113), zi s, zi n] (zH2 h a f) Q := by
  refine cM_loadsIn (zH2_mk.mpr P) (by rw [zH2_at]; exact zIgd v) (by rw [zH2_at]; exact zLd_iv v h0 h1) h0 h1 n0 n1 (fun g hg => ?_)
  rw [zH2_at] at hg
  rw [zH2_sld]
  exact hQ g hg
theorem kM_shipOf {s x : Int} (P : zMk h) (h0 : 0 ≤ s) (h1 : s < 4) (h2 : 0 ≤ x) (h3 : x < 15) : zCm mX6_shipOf d [zr (some 113), zi s, zi x] (zH2 h a f) Q ↔ Q (zRv (zi (a (146 + 15 * s + x))) (zH2 h a f)) := by
  rw [cM_shipOf (zH2_mk.mpr P) h0 h1 h2 h3, zH2_at]
theorem kM_priceOf {p g : Int} (P : zMk h) (h0 : 0 ≤ p) (h1 : p < 6) (h2 : 0 ≤ g) (h3 : g < 8) : zCm mX6_priceOf d [zr (some 113), zi p, zi g] (zH2 h a f) Q ↔ Q (zRv (zi (a (56 + 15 * p + 1 + g))) (zH2 h a f)) := by
  rw [cM_priceOf (zH2_mk.mpr P) h0 h1 h2 h3, zH2_at]
theorem kM_wayOf {p q : Int} (P : zMk h) (h0 : 0 ≤ p) (h1 : p < 6) (h2 : 0 ≤ q) (h3 : q < 6) : zCm mX6_wayOf d [zr (some 113), zi p, zi q] (zH2 h a f) Q ↔ Q (zRv (zi (a (56 + 15 * p + 9 + q))) (zH2 h a f)) := by
  rw [cM_wayOf (zH2_mk.mpr P) h0 h1 h2 h3, zH2_at]
/-! buying, selling, dumping, sailing -/
def fBuyOk (a : Int → Int) (s g n : Int) : Prop := a (146 + 15 * s) ≠ -1 ∧ a (57 + 15 * a (146 + 15 * s) + g) ≠ 0 ∧ n ≤ a (149 + 15 * s) - fTons (fLd a s) ∧ n * a (57 + 15 * a (146 + 15 * s) + g) ≤ a (150 + 15 * s)
def fBuy (a : Int → Int) (s g n : Int) : Int → Int := zU (zU a (153 + 15 * s + g) (a (153 + 15 * s + g) + n)) (150 + 15 * s) (a (150 + 15 * s) - n * a (57 + 15 * a (146 + 15 * s) + g))
def fSellOk (a : Int → Int) (s g n : Int) : Prop := a (146 + 15 * s) ≠ -1 ∧ a (57 + 15 * a (146 + 15 * s) + g) ≠ 0 ∧ n ≤ a (153 + 15 * s + g)
def fSell (a : Int → Int) (s g n : Int) : Int → Int := zU (zU a (153 + 15 * s + g) (a (153 + 15 * s + g) - n)) (150 + 15 * s) (min 9999 (a (150 + 15 * s) + n * a (57 + 15 * a (146 + 15 * s) + g)))
def fDump (a : Int → Int) (s g n : Int) : Int → Int := zU a (153 + 15 * s + g) (a (153 + 15 * s + g) - n)
def fSailOk (a : Int → Int) (s p : Int) : Prop := a (146 + 15 * s) ≠ -1 ∧ a (146 + 15 * s) ≠ p ∧ a (65 + 15 * a (146 + 15 * s) + p) ≠ 0
def fSail (a : Int → Int) (s p : Int) : Int → Int := zU (zU (zU a (146 + 15 * s) (-1)) (147 + 15 * s) p) (148 + 15 * s) (a (65 + 15 * a (146 + 15 * s) + p))
theorem zAt_b {a : Int → Int} (v : zIv a) {s : Int} (h0 : 0 ≤ s) (h1 : s < a 3) : a (146 + 15 * s) ≠ -1 → 0 ≤ a (146 + 15 * s) ∧ a (146 + 15 * s) < 6 ∧ a (146 + 15 * s) < a 2 := fun hn => by
  have h9 := zIsea v s h0 h1
  have h8 := zIports v
  by_cases e : 0 < a (148 + 15 * s)
  · exact absurd (h9.2.1 e).1 hn
  · have := h9.2.2 (by omega)
    omega
theorem zMul_b {x y m k : Int} (h0 : 0 ≤ x) (h1 : x ≤ m) (h2 : 0 ≤ y) (h3 : y ≤ k) (hk : 0 ≤ m) : 0 ≤ x * y ∧ x * y ≤ m * k := ⟨Int.mul_nonneg h0 h2, Int.mul_le_mul h1 h3 h2 hk⟩
theorem kM_buys {s g n : Int} (P : zMk h) (v : zIv a) (h0 : 0 ≤ s) (h1 : s < a 3) (g0 : 0 ≤ g) (g1 : g < 8) (n0 : 1 ≤ n) (n1 : n ≤ 60) (hy : fBuyOk a s g n → ∀ f, Q (zRv (zi 1) (zH2 h (fBuy a s g n) f))) (hn : ¬ fBuyOk a s g n → ∀ f, Q (zRv (zi 0) (zH2 h a f))) : zCm mX6_buys d [zr (some 113), zi s, zi g, zi n] (zH2 h a f) Q := by
  have h4 := (zIships v).2
  have hat := zAt_b v h0 h1
  have hc := zIcoin v s h0 h1
  have hh := zIhold v s h0 h1
  have ht := zIton v s g h0 (by omega) g0 g1
  have e0 : 146 + 15 * s + 0 = 146 + 15 * s := by omega
  have e4 : 146 + 15 * s + 4 = 150 + 15 * s := by omega
  have e7 : 146 + 15 * s + 7 + g = 153 + 15 * s + g := by omega
  unfold fBuyOk at hy hn
  unfold fBuy at hy
  by_cases c1 : a (146 + 15 * s) = -1
  · simp (disch := (first | (simp only [gK_sI, gK_sJ, gK_sR, gK_sIA, gK_sJA, gR_sI, gR_sJ, gR_sIA, Nat.reduceLeDiff, Nat.reduceEqDiff, Nat.reduceLT, Int.reduceLE, Int.reduceLT, Int.reduceEq, zWt_i, zWt_l, zWt_r, zWt_n, zH2_gK, zH2_mk, P, zMkk P, zMr0 P, zMk0 P] <;> omega) | omega | fail)) only [if_pos, if_neg, wI_id, zLc_lt, zLc_gt, zLc_eq, zLc_le, zLc_ge, Int.reduceEq, Int.reduceLE, Int.reduceLT, Int.reduceNeg, Int.reduceAdd, Int.reduceMul, Int.reduceSub, not_true_eq_false, not_false_eq_true, reduceIte, zPo_v, zPo_n, zPo_t, zKl_i, zKl_r, zKl_n, zKl_l, gK_sI, gK_sJ, gK_sR, gK_sIA, gK_sJA, gR_sI, gR_sJ, gJ_sI, gI_sJ, gI_sR, gJ_sR, gR_sIA, gJ_sIA, Nat.reduceLeDiff, Nat.reduceEqDiff, eX6_buys_0, eX6_buys_1, eX6_buys_2, eX6_buys_3, eX6_buys_6, eX6_buys_8, eX6_buys_10, eX6_buys_11, eX6_buys_14, eX6_buys_15, eX6_buys_17, eX6_buys_18, eX6_buys_21, eX6_buys_24, eX6_buys_25, eX6_buys_26, eX6_buys_29, eX6_buys_30, eX6_buys_33, eX6_buys_34, eX6_buys_35, eX6_buys_36, eX6_buys_39, eX6_buys_40, eX6_buys_41, eX6_buys_43, eX6_buys_44, eX6_buys_47, eX6_buys_48, eX6_buys_51, eX6_buys_52, eX6_buys_53, eX6_buys_54, eX6_buys_57, eX6_buys_58, eX6_buys_59, eX6_buys_60, eX6_buys_63, eX6_buys_64, eX6_buys_65, eX6_buys_66, eX6_buys_67, eX6_buys_68, eX6_buys_69, eX6_buys_72, eX6_buys_73, eX6_buys_76, eX6_buys_77, eX6_buys_78, eX6_buys_79, eX6_buys_80, eX6_buys_81, eX6_buys_82, eX6_buys_84, eX6_buys_85, eX6_buys_88, eX6_buys_89, eX6_buys_90, eX6_buys_91, eX6_buys_92, eX6_buys_in, zH2_gK, zH2_gR, zH2_at, zH2_sI, zU_ne, P, zMkk P, zMr0 P, zMk0 P, kM_shipOf P, e0, c1]
    exact hn (fun h => h.1 c1) f
  · obtain ⟨p0, p1, p2⟩ := hat c1
    have hp := zIpr v _ g p0 p1 g0 g1
    have ep : 56 + 15 * a (146 + 15 * s) + 1 + g = 57 + 15 * a (146 + 15 * s) + g := by omega
    have m9 := zMul_b (x := n) (y := a (57 + 15 * a (146 + 15 * s) + g)) (m := 60) (k := 99) (by omega) n1 hp.1 hp.2 (by omega)
    by_cases c2 : a (57 + 15 * a (146 + 15 * s) + g) = 0
    · simp (disch := (first | (simp only [gK_sI, gK_sJ, gK_sR, gK_sIA, gK_sJA, gR_sI, gR_sJ, gR_sIA, Nat.reduceLeDiff, Nat.reduceEqDiff, Nat.reduceLT, Int.reduceLE, Int.reduceLT, Int.reduceEq, zWt_i, zWt_l, zWt_r, zWt_n, zH2_gK, zH2_mk, P, zMkk P, zMr0 P, zMk0 P] <;> omega) | omega | fail)) only [if_pos, if_neg, wI_id, zLc_lt, zLc_gt, zLc_eq, zLc_le, zLc_ge, Int.reduceEq, Int.reduceLE, Int.reduceLT, Int.reduceNeg, Int.reduceAdd, Int.reduceMul, Int.reduceSub, not_true_eq_false, not_false_eq_true, reduceIte, zPo_v, zPo_n, zPo_t, zKl_i, zKl_r, zKl_n, zKl_l, gK_sI, gK_sJ, gK_sR, gK_sIA, gK_sJA, gR_sI, gR_sJ, gJ_sI, gI_sJ, gI_sR, gJ_sR, gR_sIA, gJ_sIA, Nat.reduceLeDiff, Nat.reduceEqDiff, eX6_buys_0, eX6_buys_1, eX6_buys_2, eX6_buys_3, eX6_buys_6, eX6_buys_8, eX6_buys_10, eX6_buys_11, eX6_buys_14, eX6_buys_15, eX6_buys_17, eX6_buys_18, eX6_buys_21, eX6_buys_24, eX6_buys_25, eX6_buys_26, eX6_buys_29, eX6_buys_30, eX6_buys_33, eX6_buys_34, eX6_buys_35, eX6_buys_36, eX6_buys_39, eX6_buys_40, eX6_buys_41, eX6_buys_43, eX6_buys_44, eX6_buys_47, eX6_buys_48, eX6_buys_51, eX6_buys_52, eX6_buys_53, eX6_buys_54, eX6_buys_57, eX6_buys_58, eX6_buys_59, eX6_buys_60, eX6_buys_63, eX6_buys_64, eX6_buys_65, eX6_buys_66, eX6_buys_67, eX6_buys_68, eX6_buys_69, eX6_buys_72, eX6_buys_73, eX6_buys_76, eX6_buys_77, eX6_buys_78, eX6_buys_79, eX6_buys_80, eX6_buys_81, eX6_buys_82, eX6_buys_84, eX6_buys_85, eX6_buys_88, eX6_buys_89, eX6_buys_90, eX6_buys_91, eX6_buys_92, eX6_buys_in, zH2_gK, zH2_gR, zH2_at, zH2_sI, zU_ne, P, zMkk P, zMr0 P, zMk0 P, kM_shipOf P, e0, c1, kM_priceOf P, ep, c2]
      exact hn (fun h => h.2.1 c2) f
    · simp (disch := (first | (simp only [gK_sI, gK_sJ, gK_sR, gK_sIA, gK_sJA, gR_sI, gR_sJ, gR_sIA, Nat.reduceLeDiff, Nat.reduceEqDiff, Nat.reduceLT, Int.reduceLE, Int.reduceLT, Int.reduceEq, zWt_i, zWt_l, zWt_r, zWt_n, zH2_gK, zH2_mk, P, zMkk P, zMr0 P, zMk0 P] <;> omega) | omega | fail)) only [if_pos, if_neg, wI_id, zLc_lt, zLc_gt, zLc_eq, zLc_le, zLc_ge, Int.reduceEq, Int.reduceLE, Int.reduceLT, Int.reduceNeg, Int.reduceAdd, Int.reduceMul, Int.reduceSub, not_true_eq_false, not_false_eq_true, reduceIte, zPo_v, zPo_n, zPo_t, zKl_i, zKl_r, zKl_n, zKl_l, gK_sI, gK_sJ, gK_sR, gK_sIA, gK_sJA, gR_sI, gR_sJ, gJ_sI, gI_sJ, gI_sR, gJ_sR, gR_sIA, gJ_sIA, Nat.reduceLeDiff, Nat.reduceEqDiff, eX6_buys_0, eX6_buys_1, eX6_buys_2, eX6_buys_3, eX6_buys_6, eX6_buys_8, eX6_buys_10, eX6_buys_11, eX6_buys_14, eX6_buys_15, eX6_buys_17, eX6_buys_18, eX6_buys_21, eX6_buys_24, eX6_buys_25, eX6_buys_26, eX6_buys_29, eX6_buys_30, eX6_buys_33, eX6_buys_34, eX6_buys_35, eX6_buys_36, eX6_buys_39, eX6_buys_40, eX6_buys_41, eX6_buys_43, eX6_buys_44, eX6_buys_47, eX6_buys_48, eX6_buys_51, eX6_buys_52, eX6_buys_53, eX6_buys_54, eX6_buys_57, eX6_buys_58, eX6_buys_59, eX6_buys_60, eX6_buys_63, eX6_buys_64, eX6_buys_65, eX6_buys_66, eX6_buys_67, eX6_buys_68, eX6_buys_69, eX6_buys_72, eX6_buys_73, eX6_buys_76, eX6_buys_77, eX6_buys_78, eX6_buys_79, eX6_buys_80, eX6_buys_81, eX6_buys_82, eX6_buys_84, eX6_buys_85, eX6_buys_88, eX6_buys_89, eX6_buys_90, eX6_buys_91, eX6_buys_92, eX6_buys_in, zH2_gK, zH2_gR, zH2_at, zH2_sI, zU_ne, P, zMkk P, zMr0 P, zMk0 P, kM_shipOf P, e0, c1, kM_priceOf P, ep, c2]
      refine kM_roomOf P v h0 h1 (fun f2 => ?_)
      have P2 : zMk (zH2 h a f2) := P
      by_cases c3 : n ≤ a (149 + 15 * s) - fTons (fLd a s)
      · by_cases c4 : n * a (57 + 15 * a (146 + 15 * s) + g) ≤ a (150 + 15 * s)
        · simp (disch := (first | (simp only [gK_sI, gK_sJ, gK_sR, gK_sIA, gK_sJA, gR_sI, gR_sJ, gR_sIA, Nat.reduceLeDiff, Nat.reduceEqDiff, Nat.reduceLT, Int.reduceLE, Int.reduceLT, Int.reduceEq, zWt_i, zWt_l, zWt_r, zWt_n, zH2_gK, zH2_mk, P, zMkk P, zMr0 P, zMk0 P] <;> omega) | omega | fail)) only [if_pos, if_neg, wI_id, zLc_lt, zLc_gt, zLc_eq, zLc_le, zLc_ge, Int.reduceEq, Int.reduceLE, Int.reduceLT, Int.reduceNeg, Int.reduceAdd, Int.reduceMul, Int.reduceSub, not_true_eq_false, not_false_eq_true, reduceIte, zPo_v, zPo_n, zPo_t, zKl_i, zKl_r, zKl_n, zKl_l, gK_sI, gK_sJ, gK_sR, gK_sIA, gK_sJA, gR_sI, gR_sJ, gJ_sI, gI_sJ, gI_sR, gJ_sR, gR_sIA, gJ_sIA, Nat.reduceLeDiff, Nat.reduceEqDiff, eX6_buys_0, eX6_buys_1, eX6_buys_2, eX6_buys_3, eX6_buys_6, eX6_buys_8, eX6_buys_10, eX6_buys_11, eX6_buys_14, eX6_buys_15, eX6_buys_17, eX6_buys_18, eX6_buys_21, eX6_buys_24, eX6_buys_25, eX6_buys_26, eX6_buys_29, eX6_buys_30, eX6_buys_33, eX6_buys_34, eX6_buys_35, eX6_buys_36, eX6_buys_39, eX6_buys_40, eX6_buys_41, eX6_buys_43, eX6_buys_44, eX6_buys_47, eX6_buys_48, eX6_buys_51, eX6_buys_52, eX6_buys_53, eX6_buys_54, eX6_buys_57, eX6_buys_58, eX6_buys_59, eX6_buys_60, eX6_buys_63, eX6_buys_64, eX6_buys_65, eX6_buys_66, eX6_buys_67, eX6_buys_68, eX6_buys_69, eX6_buys_72, eX6_buys_73, eX6_buys_76, eX6_buys_77, eX6_buys_78, eX6_buys_79, eX6_buys_80, eX6_buys_81, eX6_buys_82, eX6_buys_84, eX6_buys_85, eX6_buys_88, eX6_buys_89, eX6_buys_90, eX6_buys_91, eX6_buys_92, eX6_buys_in, zH2_gK, zH2_gR, zH2_at, zH2_sI, zU_ne, P, zMkk P, zMr0 P, zMk0 P, kM_shipOf P, e0, c1, c2, kM_priceOf P, ep, c3, c4, e4, e7, cM_loadRow, cM_shipRow]
          exact hy ⟨c1, c2, c3, c4⟩ f2
        · simp (disch := (first | (simp only [gK_sI, gK_sJ, gK_sR, gK_sIA, gK_sJA, gR_sI, gR_sJ, gR_sIA, Nat.reduceLeDiff, Nat.reduceEqDiff, Nat.reduceLT, Int.reduceLE, Int.reduceLT, Int.reduceEq, zWt_i, zWt_l, zWt_r, zWt_n, zH2_gK, zH2_mk, P, zMkk P, zMr0 P, zMk0 P] <;> omega) | omega | fail)) only [if_pos, if_neg, wI_id, zLc_lt, zLc_gt, zLc_eq, zLc_le, zLc_ge, Int.reduceEq, Int.reduceLE, Int.reduceLT, Int.reduceNeg, Int.reduceAdd, Int.reduceMul, Int.reduceSub, not_true_eq_false, not_false_eq_true, reduceIte, zPo_v, zPo_n, zPo_t, zKl_i, zKl_r, zKl_n, zKl_l, gK_sI, gK_sJ, gK_sR, gK_sIA, gK_sJA, gR_sI, gR_sJ, gJ_sI, gI_sJ, gI_sR, gJ_sR, gR_sIA, gJ_sIA, Nat.reduceLeDiff, Nat.reduceEqDiff, eX6_buys_0, eX6_buys_1, eX6_buys_2, eX6_buys_3, eX6_buys_6, eX6_buys_8, eX6_buys_10, eX6_buys_11, eX6_buys_14, eX6_buys_15, eX6_buys_17, eX6_buys_18, eX6_buys_21, eX6_buys_24, eX6_buys_25, eX6_buys_26, eX6_buys_29, eX6_buys_30, eX6_buys_33, eX6_buys_34, eX6_buys_35, eX6_buys_36, eX6_buys_39, eX6_buys_40, eX6_buys_41, eX6_buys_43, eX6_buys_44, eX6_buys_47, eX6_buys_48, eX6_buys_51, eX6_buys_52, eX6_buys_53, eX6_buys_54, eX6_buys_57, eX6_buys_58, eX6_buys_59, eX6_buys_60, eX6_buys_63, eX6_buys_64, eX6_buys_65, eX6_buys_66, eX6_buys_67, eX6_buys_68, eX6_buys_69, eX6_buys_72, eX6_buys_73, eX6_buys_76, eX6_buys_77, eX6_buys_78, eX6_buys_79, eX6_buys_80, eX6_buys_81, eX6_buys_82, eX6_buys_84, eX6_buys_85, eX6_buys_88, eX6_buys_89, eX6_buys_90, eX6_buys_91, eX6_buys_92, eX6_buys_in, zH2_gK, zH2_gR, zH2_at, zH2_sI, zU_ne, P, zMkk P, zMr0 P, zMk0 P, kM_shipOf P, e0, c1, c2, kM_priceOf P, ep, c3, c4, e4]
          exact hn (fun h => c4 h.2.2.2) f2
      · simp (disch := (first | (simp only [gK_sI, gK_sJ, gK_sR, gK_sIA, gK_sJA, gR_sI, gR_sJ, gR_sIA, Nat.reduceLeDiff, Nat.reduceEqDiff, Nat.reduceLT, Int.reduceLE, Int.reduceLT, Int.reduceEq, zWt_i, zWt_l, zWt_r, zWt_n, zH2_gK, zH2_mk, P, zMkk P, zMr0 P, zMk0 P] <;> omega) | omega | fail)) only [if_pos, if_neg, wI_id, zLc_lt, zLc_gt, zLc_eq, zLc_le, zLc_ge, Int.reduceEq, Int.reduceLE, Int.reduceLT, Int.reduceNeg, Int.reduceAdd, Int.reduceMul, Int.reduceSub, not_true_eq_false, not_false_eq_true, reduceIte, zPo_v, zPo_n, zPo_t, zKl_i, zKl_r, zKl_n, zKl_l, gK_sI, gK_sJ, gK_sR, gK_sIA, gK_sJA, gR_sI, gR_sJ, gJ_sI, gI_sJ, gI_sR, gJ_sR, gR_sIA, gJ_sIA, Nat.reduceLeDiff, Nat.reduceEqDiff, eX6_buys_0, eX6_buys_1, eX6_buys_2, eX6_buys_3, eX6_buys_6, eX6_buys_8, eX6_buys_10, eX6_buys_11, eX6_buys_14, eX6_buys_15, eX6_buys_17, eX6_buys_18, eX6_buys_21, eX6_buys_24, eX6_buys_25, eX6_buys_26, eX6_buys_29, eX6_buys_30, eX6_buys_33, eX6_buys_34, eX6_buys_35, eX6_buys_36, eX6_buys_39, eX6_buys_40, eX6_buys_41, eX6_buys_43, eX6_buys_44, eX6_buys_47, eX6_buys_48, eX6_buys_51, eX6_buys_52, eX6_buys_53, eX6_buys_54, eX6_buys_57, eX6_buys_58, eX6_buys_59, eX6_buys_60, eX6_buys_63, eX6_buys_64, eX6_buys_65, eX6_buys_66, eX6_buys_67, eX6_buys_68, eX6_buys_69, eX6_buys_72, eX6_buys_73, eX6_buys_76, eX6_buys_77, eX6_buys_78, eX6_buys_79, eX6_buys_80, eX6_buys_81, eX6_buys_82, eX6_buys_84, eX6_buys_85, eX6_buys_88, eX6_buys_89, eX6_buys_90, eX6_buys_91, eX6_buys_92, eX6_buys_in, zH2_gK, zH2_gR, zH2_at, zH2_sI, zU_ne, P, zMkk P, zMr0 P, zMk0 P, c3]
        exact hn (fun h => c3 h.2.2.1) f2
theorem kM_sells {s g n : Int} (P : zMk h) (v : zIv a) (h0 : 0 ≤ s) (h1 : s < a 3) (g0 : 0 ≤ g) (g1 : g < 8) (n0 : 1 ≤ n) (n1 : n ≤ 60) (hy : fSellOk a s g n → Q (zRv (zi 1) (zH2 h (fSell a s g n) f))) (hn : ¬ fSellOk a s g n → Q (zRv (zi 0) (zH2 h a f))) : zCm mX6_sells d [zr (some 113), zi s, zi g, zi n] (zH2 h a f) Q := by
  have P2 : zMk (zH2 h a f) := P
  have h4 := (zIships v).2
  have hat := zAt_b v h0 h1
  have hc := zIcoin v s h0 h1
  have ht := zIton v s g h0 (by omega) g0 g1
  have e0 : 146 + 15 * s + 0 = 146 + 15 * s := by omega
  have e4 : 146 + 15 * s + 4 = 150 + 15 * s := by omega
  have e7 : 146 + 15 * s + 7 + g = 153 + 15 * s + g := by omega
  unfold fSellOk at hy hn
  unfold fSell at hy
  by_cases c1 : a (146 + 15 * s) = -1
  · simp (disch := (first | (simp only [gK_sI, gK_sJ, gK_sR, gK_sIA, gK_sJA, gR_sI, gR_sJ, gR_sIA, Nat.reduceLeDiff, Nat.reduceEqDiff, Nat.reduceLT, Int.reduceLE, Int.reduceLT, Int.reduceEq, zWt_i, zWt_l, zWt_r, zWt_n, zH2_gK, zH2_mk, P, zMkk P, zMr0 P, zMk0 P] <;> omega) | omega | fail)) only [if_pos, if_neg, wI_id, zLc_lt, zLc_gt, zLc_eq, zLc_le, zLc_ge, Int.reduceEq, Int.reduceLE, Int.reduceLT, Int.reduceNeg, Int.reduceAdd, Int.reduceMul, Int.reduceSub, not_true_eq_false, not_false_eq_true, reduceIte, zPo_v, zPo_n, zPo_t, zKl_i, zKl_r, zKl_n, zKl_l, gK_sI, gK_sJ, gK_sR, gK_sIA, gK_sJA, gR_sI, gR_sJ, gJ_sI, gI_sJ, gI_sR, gJ_sR, gR_sIA, gJ_sIA, Nat.reduceLeDiff, Nat.reduceEqDiff, eX6_sells_0, eX6_sells_1, eX6_sells_2, eX6_sells_3, eX6_sells_6, eX6_sells_8, eX6_sells_10, eX6_sells_11, eX6_sells_14, eX6_sells_15, eX6_sells_17, eX6_sells_18, eX6_sells_21, eX6_sells_24, eX6_sells_25, eX6_sells_28, eX6_sells_29, eX6_sells_30, eX6_sells_31, eX6_sells_34, eX6_sells_35, eX6_sells_36, eX6_sells_39, eX6_sells_40, eX6_sells_41, eX6_sells_42, eX6_sells_45, eX6_sells_46, eX6_sells_47, eX6_sells_48, eX6_sells_51, eX6_sells_52, eX6_sells_53, eX6_sells_54, eX6_sells_55, eX6_sells_56, eX6_sells_57, eX6_sells_60, eX6_sells_61, eX6_sells_64, eX6_sells_65, eX6_sells_66, eX6_sells_69, eX6_sells_70, eX6_sells_71, eX6_sells_72, eX6_sells_75, eX6_sells_76, eX6_sells_77, eX6_sells_79, eX6_sells_80, eX6_sells_83, eX6_sells_84, eX6_sells_85, eX6_sells_88, eX6_sells_89, eX6_sells_90, eX6_sells_in, zH2_gK, zH2_gR, zH2_at, zH2_sI, zU_ne, P, zMkk P, zMr0 P, zMk0 P, kM_shipOf P, e0, c1]
    exact hn (fun h => h.1 c1)
  · obtain ⟨p0, p1, p2⟩ := hat c1
    have hp := zIpr v _ g p0 p1 g0 g1
    have ep : 56 + 15 * a (146 + 15 * s) + 1 + g = 57 + 15 * a (146 + 15 * s) + g := by omega
    have m9 := zMul_b (x := n) (y := a (57 + 15 * a (146 + 15 * s) + g)) (m := 60) (k := 99) (by omega) n1 hp.1 hp.2 (by omega)
    by_cases c2 : a (57 + 15 * a (146 + 15 * s) + g) = 0
    · simp (disch := (first | (simp only [gK_sI, gK_sJ, gK_sR, gK_sIA, gK_sJA, gR_sI, gR_sJ, gR_sIA, Nat.reduceLeDiff, Nat.reduceEqDiff, Nat.reduceLT, Int.reduceLE, Int.reduceLT, Int.reduceEq, zWt_i, zWt_l, zWt_r, zWt_n, zH2_gK, zH2_mk, P, zMkk P, zMr0 P, zMk0 P] <;> omega) | omega | fail)) only [if_pos, if_neg, wI_id, zLc_lt, zLc_gt, zLc_eq, zLc_le, zLc_ge, Int.reduceEq, Int.reduceLE, Int.reduceLT, Int.reduceNeg, Int.reduceAdd, Int.reduceMul, Int.reduceSub, not_true_eq_false, not_false_eq_true, reduceIte, zPo_v, zPo_n, zPo_t, zKl_i, zKl_r, zKl_n, zKl_l, gK_sI, gK_sJ, gK_sR, gK_sIA, gK_sJA, gR_sI, gR_sJ, gJ_sI, gI_sJ, gI_sR, gJ_sR, gR_sIA, gJ_sIA, Nat.reduceLeDiff, Nat.reduceEqDiff, eX6_sells_0, eX6_sells_1, eX6_sells_2, eX6_sells_3, eX6_sells_6, eX6_sells_8, eX6_sells_10, eX6_sells_11, eX6_sells_14, eX6_sells_15, eX6_sells_17, eX6_sells_18, eX6_sells_21, eX6_sells_24, eX6_sells_25, eX6_sells_28, eX6_sells_29, eX6_sells_30, eX6_sells_31, eX6_sells_34, eX6_sells_35, eX6_sells_36, eX6_sells_39, eX6_sells_40, eX6_sells_41, eX6_sells_42, eX6_sells_45, eX6_sells_46, eX6_sells_47, eX6_sells_48, eX6_sells_51, eX6_sells_52, eX6_sells_53, eX6_sells_54, eX6_sells_55, eX6_sells_56, eX6_sells_57, eX6_sells_60, eX6_sells_61, eX6_sells_64, eX6_sells_65, eX6_sells_66, eX6_sells_69, eX6_sells_70, eX6_sells_71, eX6_sells_72, eX6_sells_75, eX6_sells_76, eX6_sells_77, eX6_sells_79, eX6_sells_80, eX6_sells_83, eX6_sells_84, eX6_sells_85, eX6_sells_88, eX6_sells_89, eX6_sells_90, eX6_sells_in, zH2_gK, zH2_gR, zH2_at, zH2_sI, zU_ne, P, zMkk P, zMr0 P, zMk0 P, kM_shipOf P, e0, c1, kM_priceOf P, ep, c2]
      exact hn (fun h => h.2.1 c2)
    · by_cases c3 : n ≤ a (153 + 15 * s + g)
      · have hy := hy ⟨c1, c2, c3⟩
        simp (disch := (first | (simp only [gK_sI, gK_sJ, gK_sR, gK_sIA, gK_sJA, gR_sI, gR_sJ, gR_sIA, Nat.reduceLeDiff, Nat.reduceEqDiff, Nat.reduceLT, Int.reduceLE, Int.reduceLT, Int.reduceEq, zWt_i, zWt_l, zWt_r, zWt_n, zH2_gK, zH2_mk, P, zMkk P, zMr0 P, zMk0 P] <;> omega) | omega | fail)) only [if_pos, if_neg, wI_id, zLc_lt, zLc_gt, zLc_eq, zLc_le, zLc_ge, Int.reduceEq, Int.reduceLE, Int.reduceLT, Int.reduceNeg, Int.reduceAdd, Int.reduceMul, Int.reduceSub, not_true_eq_false, not_false_eq_true, reduceIte, zPo_v, zPo_n, zPo_t, zKl_i, zKl_r, zKl_n, zKl_l, gK_sI, gK_sJ, gK_sR, gK_sIA, gK_sJA, gR_sI, gR_sJ, gJ_sI, gI_sJ, gI_sR, gJ_sR, gR_sIA, gJ_sIA, Nat.reduceLeDiff, Nat.reduceEqDiff, eX6_sells_0, eX6_sells_1, eX6_sells_2, eX6_sells_3, eX6_sells_6, eX6_sells_8, eX6_sells_10, eX6_sells_11, eX6_sells_14, eX6_sells_15, eX6_sells_17, eX6_sells_18, eX6_sells_21, eX6_sells_24, eX6_sells_25, eX6_sells_28, eX6_sells_29, eX6_sells_30, eX6_sells_31, eX6_sells_34, eX6_sells_35, eX6_sells_36, eX6_sells_39, eX6_sells_40, eX6_sells_41, eX6_sells_42, eX6_sells_45, eX6_sells_46, eX6_sells_47, eX6_sells_48, eX6_sells_51, eX6_sells_52, eX6_sells_53, eX6_sells_54, eX6_sells_55, eX6_sells_56, eX6_sells_57, eX6_sells_60, eX6_sells_61, eX6_sells_64, eX6_sells_65, eX6_sells_66, eX6_sells_69, eX6_sells_70, eX6_sells_71, eX6_sells_72, eX6_sells_75, eX6_sells_76, eX6_sells_77, eX6_sells_79, eX6_sells_80, eX6_sells_83, eX6_sells_84, eX6_sells_85, eX6_sells_88, eX6_sells_89, eX6_sells_90, eX6_sells_in, zH2_gK, zH2_gR, zH2_at, zH2_sI, zU_ne, P, zMkk P, zMr0 P, zMk0 P, kM_shipOf P, e0, c1, c2, kM_priceOf P, ep, c3, e4, e7, cM_loadRow, cM_shipRow]
        try simp (disch := (first | (simp only [gK_sI, gK_sJ, gK_sR, gK_sIA, gK_sJA, gR_sI, gR_sJ, gR_sIA, Nat.reduceLeDiff, Nat.reduceEqDiff, Nat.reduceLT, Int.reduceLE, Int.reduceLT, Int.reduceEq, zWt_i, zWt_l, zWt_r, zWt_n, zH2_gK, zH2_mk, P, zMkk P, zMr0 P, zMk0 P] <;> omega) | omega | fail)) only [if_pos, if_neg, wI_id, zLc_lt, zLc_gt, zLc_eq, zLc_le, zLc_ge, Int.reduceEq, Int.reduceLE, Int.reduceLT, Int.reduceNeg, Int.reduceAdd, Int.reduceMul, Int.reduceSub, not_true_eq_false, not_false_eq_true, reduceIte, zPo_v, zPo_n, zPo_t, zKl_i, zKl_r, zKl_n, zKl_l, gK_sI, gK_sJ, gK_sR, gK_sIA, gK_sJA, gR_sI, gR_sJ, gJ_sI, gI_sJ, gI_sR, gJ_sR, gR_sIA, gJ_sIA, Nat.reduceLeDiff, Nat.reduceEqDiff, eX6_sells_0, eX6_sells_1, eX6_sells_2, eX6_sells_3, eX6_sells_6, eX6_sells_8, eX6_sells_10, eX6_sells_11, eX6_sells_14, eX6_sells_15, eX6_sells_17, eX6_sells_18, eX6_sells_21, eX6_sells_24, eX6_sells_25, eX6_sells_28, eX6_sells_29, eX6_sells_30, eX6_sells_31, eX6_sells_34, eX6_sells_35, eX6_sells_36, eX6_sells_39, eX6_sells_40, eX6_sells_41, eX6_sells_42, eX6_sells_45, eX6_sells_46, eX6_sells_47, eX6_sells_48, eX6_sells_51, eX6_sells_52, eX6_sells_53, eX6_sells_54, eX6_sells_55, eX6_sells_56, eX6_sells_57, eX6_sells_60, eX6_sells_61, eX6_sells_64, eX6_sells_65, eX6_sells_66, eX6_sells_69, eX6_sells_70, eX6_sells_71, eX6_sells_72, eX6_sells_75, eX6_sells_76, eX6_sells_77, eX6_sells_79, eX6_sells_80, eX6_sells_83, eX6_sells_84, eX6_sells_85, eX6_sells_88, eX6_sells_89, eX6_sells_90, eX6_sells_in, zH2_gK, zH2_gR, zH2_at, zH2_sI, zU_ne, P, zMkk P, zMr0 P, zMk0 P, kM_shipOf P, e0, c1, c2, kM_priceOf P, ep, c3, e4, e7, cM_loadRow, cM_shipRow]
        rw [Int.min_def] at hy
        split at hy <;> (split <;> first | exact hy | (exfalso; omega))
      · simp (disch := (first | (simp only [gK_sI, gK_sJ, gK_sR, gK_sIA, gK_sJA, gR_sI, gR_sJ, gR_sIA, Nat.reduceLeDiff, Nat.reduceEqDiff, Nat.reduceLT, Int.reduceLE, Int.reduceLT, Int.reduceEq, zWt_i, zWt_l, zWt_r, zWt_n, zH2_gK, zH2_mk, P, zMkk P, zMr0 P, zMk0 P] <;> omega) | omega | fail)) only [if_pos, if_neg, wI_id, zLc_lt, zLc_gt, zLc_eq, zLc_le, zLc_ge, Int.reduceEq, Int.reduceLE, Int.reduceLT, Int.reduceNeg, Int.reduceAdd, Int.reduceMul, Int.reduceSub, not_true_eq_false, not_false_eq_true, reduceIte, zPo_v, zPo_n, zPo_t, zKl_i, zKl_r, zKl_n, zKl_l, gK_sI, gK_sJ, gK_sR, gK_sIA, gK_sJA, gR_sI, gR_sJ, gJ_sI, gI_sJ, gI_sR, gJ_sR, gR_sIA, gJ_sIA, Nat.reduceLeDiff, Nat.reduceEqDiff, eX6_sells_0, eX6_sells_1, eX6_sells_2, eX6_sells_3, eX6_sells_6, eX6_sells_8, eX6_sells_10, eX6_sells_11, eX6_sells_14, eX6_sells_15, eX6_sells_17, eX6_sells_18, eX6_sells_21, eX6_sells_24, eX6_sells_25, eX6_sells_28, eX6_sells_29, eX6_sells_30, eX6_sells_31, eX6_sells_34, eX6_sells_35, eX6_sells_36, eX6_sells_39, eX6_sells_40, eX6_sells_41, eX6_sells_42, eX6_sells_45, eX6_sells_46, eX6_sells_47, eX6_sells_48, eX6_sells_51, eX6_sells_52, eX6_sells_53, eX6_sells_54, eX6_sells_55, eX6_sells_56, eX6_sells_57, eX6_sells_60, eX6_sells_61, eX6_sells_64, eX6_sells_65, eX6_sells_66, eX6_sells_69, eX6_sells_70, eX6_sells_71, eX6_sells_72, eX6_sells_75, eX6_sells_76, eX6_sells_77, eX6_sells_79, eX6_sells_80, eX6_sells_83, eX6_sells_84, eX6_sells_85, eX6_sells_88, eX6_sells_89, eX6_sells_90, eX6_sells_in, zH2_gK, zH2_gR, zH2_at, zH2_sI, zU_ne, P, zMkk P, zMr0 P, zMk0 P, kM_shipOf P, e0, c1, c2, kM_priceOf P, ep, c3, e7, cM_loadRow]
        exact hn (fun h => c3 h.2.2)
theorem kM_dumps {s g n : Int} (P : zMk h) (v : zIv a) (h0 : 0 ≤ s) (h1 : s < a 3) (g0 : 0 ≤ g) (g1 : g < 8) (n0 : 1 ≤ n) (n1 : n ≤ 60) (hy : n ≤ a (153 + 15 * s + g) → Q (zRv (zi 1) (zH2 h (fDump a s g n) f))) (hn : ¬ n ≤ a (153 + 15 * s + g) → Q (zRv (zi 0) (zH2 h a f))) : zCm mX6_dumps d [zr (some 113), zi s, zi g, zi n] (zH2 h a f) Q := by
  have P2 : zMk (zH2 h a f) := P
  have h4 := (zIships v).2
  have ht := zIton v s g h0 (by omega) g0 g1
  have e7 : 146 + 15 * s + 7 + g = 153 + 15 * s + g := by omega
  unfold fDump at hy
  by_cases c3 : n ≤ a (153 + 15 * s + g)
  · simp (disch := (first | (simp only [gK_sI, gK_sJ, gK_sR, gK_sIA, gK_sJA, gR_sI, gR_sJ, gR_sIA, Nat.reduceLeDiff, Nat.reduceEqDiff, Nat.reduceLT, Int.reduceLE, Int.reduceLT, Int.reduceEq, zWt_i, zWt_l, zWt_r, zWt_n, zH2_gK, zH2_mk, P, zMkk P, zMr0 P, zMk0 P] <;> omega) | omega | fail)) only [if_pos, if_neg, wI_id, zLc_lt, zLc_gt, zLc_eq, zLc_le, zLc_ge, Int.reduceEq, Int.reduceLE, Int.reduceLT, Int.reduceNeg, Int.reduceAdd, Int.reduceMul, Int.reduceSub, not_true_eq_false, not_false_eq_true, reduceIte, zPo_v, zPo_n, zPo_t, zKl_i, zKl_r, zKl_n, zKl_l, gK_sI, gK_sJ, gK_sR, gK_sIA, gK_sJA, gR_sI, gR_sJ, gJ_sI, gI_sJ, gI_sR, gJ_sR, gR_sIA, gJ_sIA, Nat.reduceLeDiff, Nat.reduceEqDiff, eX6_dumps_0, eX6_dumps_1, eX6_dumps_4, eX6_dumps_5, eX6_dumps_6, eX6_dumps_7, eX6_dumps_10, eX6_dumps_11, eX6_dumps_12, eX6_dumps_15, eX6_dumps_16, eX6_dumps_17, eX6_dumps_18, eX6_dumps_21, eX6_dumps_22, eX6_dumps_23, eX6_dumps_24, eX6_dumps_27, eX6_dumps_28, eX6_dumps_29, eX6_dumps_30, eX6_dumps_31, eX6_dumps_32, eX6_dumps_33, eX6_dumps_in, zH2_gK, zH2_gR, zH2_at, zH2_sI, zU_ne, P, zMkk P, zMr0 P, zMk0 P, c3, e7, cM_loadRow]
    exact hy c3
  · simp (disch := (first | (simp only [gK_sI, gK_sJ, gK_sR, gK_sIA, gK_sJA, gR_sI, gR_sJ, gR_sIA, Nat.reduceLeDiff, Nat.reduceEqDiff, Nat.reduceLT, Int.reduceLE, Int.reduceLT, Int.reduceEq, zWt_i, zWt_l, zWt_r, zWt_n, zH2_gK, zH2_mk, P, zMkk P, zMr0 P, zMk0 P] <;> omega) | omega | fail)) only [if_pos, if_neg, wI_id, zLc_lt, zLc_gt, zLc_eq, zLc_le, zLc_ge, Int.reduceEq, Int.reduceLE, Int.reduceLT, Int.reduceNeg, Int.reduceAdd, Int.reduceMul, Int.reduceSub, not_true_eq_false, not_false_eq_true, reduceIte, zPo_v, zPo_n, zPo_t, zKl_i, zKl_r, zKl_n, zKl_l, gK_sI, gK_sJ, gK_sR, gK_sIA, gK_sJA, gR_sI, gR_sJ, gJ_sI, gI_sJ, gI_sR, gJ_sR, gR_sIA, gJ_sIA, Nat.reduceLeDiff, Nat.reduceEqDiff, eX6_dumps_0, eX6_dumps_1, eX6_dumps_4, eX6_dumps_5, eX6_dumps_6, eX6_dumps_7, eX6_dumps_10, eX6_dumps_11, eX6_dumps_12, eX6_dumps_15, eX6_dumps_16, eX6_dumps_17, eX6_dumps_18, eX6_dumps_21, eX6_dumps_22, eX6_dumps_23, eX6_dumps_24, eX6_dumps_27, eX6_dumps_28, eX6_dumps_29, eX6_dumps_30, eX6_dumps_31, eX6_dumps_32, eX6_dumps_33, eX6_dumps_in, zH2_gK, zH2_gR, zH2_at, zH2_sI, zU_ne, P, zMkk P, zMr0 P, zMk0 P, c3, e7, cM_loadRow]
    exact hn c3
theorem kM_sails {s p : Int} (P : zMk h) (v : zIv a) (h0 : 0 ≤ s) (h1 : s < a 3) (p0 : 0 ≤ p) (p1 : p < 6) (hy : fSailOk a s p → Q (zRv (zi 1) (zH2 h (fSail a s p) f))) (hn : ¬ fSailOk a s p → Q (zRv (zi 0) (zH2 h a f))) : zCm mX6_sails d [zr (some 113), zi s, zi p] (zH2 h a f) Q := by
  have P2 : zMk (zH2 h a f) := P
  have h4 := (zIships v).2
  have hat := zAt_b v h0 h1
  have e0 : 146 + 15 * s + 0 = 146 + 15 * s := by omega
  have e1 : 146 + 15 * s + 1 = 147 + 15 * s := by omega
  have e2 : 146 + 15 * s + 2 = 148 + 15 * s := by omega
  unfold fSailOk at hy hn
  unfold fSail at hy
  by_cases c1 : a (146 + 15 * s) = -1
  · simp (disch := (first | (simp only [gK_sI, gK_sJ, gK_sR, gK_sIA, gK_sJA, gR_sI, gR_sJ, gR_sIA, Nat.reduceLeDiff, Nat.reduceEqDiff, Nat.reduceLT, Int.reduceLE, Int.reduceLT, Int.reduceEq, zWt_i, zWt_l, zWt_r, zWt_n, zH2_gK, zH2_mk, P, zMkk P, zMr0 P, zMk0 P] <;> omega) | omega | fail)) only [if_pos, if_neg, wI_id, zLc_lt, zLc_gt, zLc_eq, zLc_le, zLc_ge, Int.reduceEq, Int.reduceLE, Int.reduceLT, Int.reduceNeg, Int.reduceAdd, Int.reduceMul, Int.reduceSub, not_true_eq_false, not_false_eq_true, reduceIte, zPo_v, zPo_n, zPo_t, zKl_i, zKl_r, zKl_n, zKl_l, gK_sI, gK_sJ, gK_sR, gK_sIA, gK_sJA, gR_sI, gR_sJ, gJ_sI, gI_sJ, gI_sR, gJ_sR, gR_sIA, gJ_sIA, Nat.reduceLeDiff, Nat.reduceEqDiff, eX6_sails_0, eX6_sails_1, eX6_sails_2, eX6_sails_3, eX6_sails_6, eX6_sails_7, eX6_sails_8, eX6_sails_9, eX6_sails_12, eX6_sails_13, eX6_sails_14, eX6_sails_17, eX6_sails_18, eX6_sails_19, eX6_sails_20, eX6_sails_23, eX6_sails_26, eX6_sails_27, eX6_sails_28, eX6_sails_29, eX6_sails_32, eX6_sails_33, eX6_sails_36, eX6_sails_37, eX6_sails_38, eX6_sails_39, eX6_sails_42, eX6_sails_43, eX6_sails_46, eX6_sails_47, eX6_sails_48, eX6_sails_49, eX6_sails_50, eX6_sails_51, eX6_sails_54, eX6_sails_55, eX6_sails_58, eX6_sails_59, eX6_sails_60, eX6_sails_61, eX6_sails_62, eX6_sails_63, eX6_sails_66, eX6_sails_67, eX6_sails_68, eX6_sails_in, zH2_gK, zH2_gR, zH2_at, zH2_sI, zU_ne, P, zMkk P, zMr0 P, zMk0 P, kM_shipOf P, e0, c1]
    exact hn (fun h => h.1 c1)
  · obtain ⟨q0, q1, q2⟩ := hat c1
    have ep : 56 + 15 * a (146 + 15 * s) + 9 + p = 65 + 15 * a (146 + 15 * s) + p := by omega
    by_cases c2 : a (146 + 15 * s) = p
    · simp (disch := (first | (simp only [gK_sI, gK_sJ, gK_sR, gK_sIA, gK_sJA, gR_sI, gR_sJ, gR_sIA, Nat.reduceLeDiff, Nat.reduceEqDiff, Nat.reduceLT, Int.reduceLE, Int.reduceLT, Int.reduceEq, zWt_i, zWt_l, zWt_r, zWt_n, zH2_gK, zH2_mk, P, zMkk P, zMr0 P, zMk0 P] <;> omega) | omega | fail)) only [if_pos, if_neg, wI_id, zLc_lt, zLc_gt, zLc_eq, zLc_le, zLc_ge, Int.reduceEq, Int.reduceLE, Int.reduceLT, Int.reduceNeg, Int.reduceAdd, Int.reduceMul, Int.reduceSub, not_true_eq_false, not_false_eq_true, reduceIte, zPo_v, zPo_n, zPo_t, zKl_i, zKl_r, zKl_n, zKl_l, gK_sI, gK_sJ, gK_sR, gK_sIA, gK_sJA, gR_sI, gR_sJ, gJ_sI, gI_sJ, gI_sR, gJ_sR, gR_sIA, gJ_sIA, Nat.reduceLeDiff, Nat.reduceEqDiff, eX6_sails_0, eX6_sails_1, eX6_sails_2, eX6_sails_3, eX6_sails_6, eX6_sails_7, eX6_sails_8, eX6_sails_9, eX6_sails_12, eX6_sails_13, eX6_sails_14, eX6_sails_17, eX6_sails_18, eX6_sails_19, eX6_sails_20, eX6_sails_23, eX6_sails_26, eX6_sails_27, eX6_sails_28, eX6_sails_29, eX6_sails_32, eX6_sails_33, eX6_sails_36, eX6_sails_37, eX6_sails_38, eX6_sails_39, eX6_sails_42, eX6_sails_43, eX6_sails_46, eX6_sails_47, eX6_sails_48, eX6_sails_49, eX6_sails_50, eX6_sails_51, eX6_sails_54, eX6_sails_55, eX6_sails_58, eX6_sails_59, eX6_sails_60, eX6_sails_61, eX6_sails_62, eX6_sails_63, eX6_sails_66, eX6_sails_67, eX6_sails_68, eX6_sails_in, zH2_gK, zH2_gR, zH2_at, zH2_sI, zU_ne, P, zMkk P, zMr0 P, zMk0 P, kM_shipOf P, e0, c1, c2]
      exact hn (fun h => h.2.1 c2)
    · by_cases c3 : a (65 + 15 * a (146 + 15 * s) + p) = 0
      · simp (disch := (first | (simp only [gK_sI, gK_sJ, gK_sR, gK_sIA, gK_sJA, gR_sI, gR_sJ, gR_sIA, Nat.reduceLeDiff, Nat.reduceEqDiff, Nat.reduceLT, Int.reduceLE, Int.reduceLT, Int.reduceEq, zWt_i, zWt_l, zWt_r, zWt_n, zH2_gK, zH2_mk, P, zMkk P, zMr0 P, zMk0 P] <;> omega) | omega | fail)) only [if_pos, if_neg, wI_id, zLc_lt, zLc_gt, zLc_eq, zLc_le, zLc_ge, Int.reduceEq, Int.reduceLE, Int.reduceLT, Int.reduceNeg, Int.reduceAdd, Int.reduceMul, Int.reduceSub, not_true_eq_false, not_false_eq_true, reduceIte, zPo_v, zPo_n, zPo_t, zKl_i, zKl_r, zKl_n, zKl_l, gK_sI, gK_sJ, gK_sR, gK_sIA, gK_sJA, gR_sI, gR_sJ, gJ_sI, gI_sJ, gI_sR, gJ_sR, gR_sIA, gJ_sIA, Nat.reduceLeDiff, Nat.reduceEqDiff, eX6_sails_0, eX6_sails_1, eX6_sails_2, eX6_sails_3, eX6_sails_6, eX6_sails_7, eX6_sails_8, eX6_sails_9, eX6_sails_12, eX6_sails_13, eX6_sails_14, eX6_sails_17, eX6_sails_18, eX6_sails_19, eX6_sails_20, eX6_sails_23, eX6_sails_26, eX6_sails_27, eX6_sails_28, eX6_sails_29, eX6_sails_32, eX6_sails_33, eX6_sails_36, eX6_sails_37, eX6_sails_38, eX6_sails_39, eX6_sails_42, eX6_sails_43, eX6_sails_46, eX6_sails_47, eX6_sails_48, eX6_sails_49, eX6_sails_50, eX6_sails_51, eX6_sails_54, eX6_sails_55, eX6_sails_58, eX6_sails_59, eX6_sails_60, eX6_sails_61, eX6_sails_62, eX6_sails_63, eX6_sails_66, eX6_sails_67, eX6_sails_68, eX6_sails_in, zH2_gK, zH2_gR, zH2_at, zH2_sI, zU_ne, P, zMkk P, zMr0 P, zMk0 P, kM_shipOf P, e0, c1, c2, kM_wayOf P, ep, c3]
        exact hn (fun h => h.2.2 c3)
      · simp (disch := (first | (simp only [gK_sI, gK_sJ, gK_sR, gK_sIA, gK_sJA, gR_sI, gR_sJ, gR_sIA, Nat.reduceLeDiff, Nat.reduceEqDiff, Nat.reduceLT, Int.reduceLE, Int.reduceLT, Int.reduceEq, zWt_i, zWt_l, zWt_r, zWt_n, zH2_gK, zH2_mk, P, zMkk P, zMr0 P, zMk0 P] <;> omega) | omega | fail)) only [if_pos, if_neg, wI_id, zLc_lt, zLc_gt, zLc_eq, zLc_le, zLc_ge, Int.reduceEq, Int.reduceLE, Int.reduceLT, Int.reduceNeg, Int.reduceAdd, Int.reduceMul, Int.reduceSub, not_true_eq_false, not_false_eq_true, reduceIte, zPo_v, zPo_n, zPo_t, zKl_i, zKl_r, zKl_n, zKl_l, gK_sI, gK_sJ, gK_sR, gK_sIA, gK_sJA, gR_sI, gR_sJ, gJ_sI, gI_sJ, gI_sR, gJ_sR, gR_sIA, gJ_sIA, Nat.reduceLeDiff, Nat.reduceEqDiff, eX6_sails_0, eX6_sails_1, eX6_sails_2, eX6_sails_3, eX6_sails_6, eX6_sails_7, eX6_sails_8, eX6_sails_9, eX6_sails_12, eX6_sails_13, eX6_sails_14, eX6_sails_17, eX6_sails_18, eX6_sails_19, eX6_sails_20, eX6_sails_23, eX6_sails_26, eX6_sails_27, eX6_sails_28, eX6_sails_29, eX6_sails_32, eX6_sails_33, eX6_sails_36, eX6_sails_37, eX6_sails_38, eX6_sails_39, eX6_sails_42, eX6_sails_43, eX6_sails_46, eX6_sails_47, eX6_sails_48, eX6_sails_49, eX6_sails_50, eX6_sails_51, eX6_sails_54, eX6_sails_55, eX6_sails_58, eX6_sails_59, eX6_sails_60, eX6_sails_61, eX6_sails_62, eX6_sails_63, eX6_sails_66, eX6_sails_67, eX6_sails_68, eX6_sails_in, zH2_gK, zH2_gR, zH2_at, zH2_sI, zU_ne, P, zMkk P, zMr0 P, zMk0 P, kM_shipOf P, e0, e1, e2, c1, c2, kM_wayOf P, ep, c3, cM_shipRow]
        exact hy ⟨c1, c2, c3⟩
end K4
