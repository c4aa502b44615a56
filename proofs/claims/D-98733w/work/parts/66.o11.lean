/-! ===== OPERATIONS, 11: if tons were more or fewer ===== -/
set_option maxRecDepth 100000
theorem sI_undo {h : zHp} {b c : Nat} {j x : Int} {f : Int → Int} (e : b ≠ c) : sI (sIA (sI h b j x) c f) b j (gI h b j) = sIA h c f := by
  show sIA (sIA (sIA h b (zU (gI h b) j x)) c f) b (zU (gI (sIA (sIA h b (zU (gI h b) j x)) c f) b) j (gI h b j)) = _
  rw [gI_sIA_ne e, gI_sIA_eq, ← sIA_comm e, sIA2]
  have e9 : zU (zU (gI h b) j x) j (gI h b j) = gI h b := by
    funext k
    unfold zU
    split
    · rename_i ek
      rw [ek]
    · rfl
  rw [e9, sIA_id]
theorem zH2_sIl {h : zHp} {a f : Int → Int} {j v : Int} : sI (zH2 h a f) 122 j v = zH2 h a (zU f j v) := by
  show sIA (zH2 h a f) 122 (zU (gI (zH2 h a f) 122) j v) = _
  rw [zH2_sld, zH2_ld]
def fW8 (ld : Int → Int) (g m : Int) : Int → Int := zU ld g (max 0 (ld g + m))
def fCapW (a : Int → Int) (s g m : Int) : Int := fCap a (fW8 (fLd a s) g m) (a 4)
theorem zLd_w8 {a : Int → Int} (v : zIv a) {s g m : Int} (h0 : 0 ≤ s) (h1 : s < 4) (g0 : 0 ≤ g) (g1 : g < 8) (m1 : m ≤ 60) : zLd (fW8 (fLd a s) g m) := fun i i0 i1 => by
  have ht := zLd_iv v h0 h1 i i0 i1
  have hg : fLd a s g ≤ 60 := (zIton v s g h0 h1 g0 g1).2.1
  unfold fW8 zU
  split <;> omega
theorem zEq8_up {a g : Int → Int} (v : zIv a) {s j m : Int} (h0 : 0 ≤ s) (h1 : s < 4) (j0 : 0 ≤ j) (j1 : j < 8) (m0 : 0 ≤ m) (hg : zEq8 g (fLd a s)) : zEq8 (zU g j (g j + m)) (fW8 (fLd a s) j m) := fun i i0 i1 => by
  have e := hg i i0 i1
  have ej := hg j j0 j1
  have ht := zLd_iv v h0 h1 j j0 j1
  unfold fW8 zU
  split
  · omega
  · exact e
theorem zEq8_dn {a g : Int → Int} {s j m : Int} (j0 : 0 ≤ j) (j1 : j < 8) (hg : zEq8 g (fLd a s)) : zEq8 (zU g j (if 0 < g j - m then g j - m else 0)) (fW8 (fLd a s) j (-m)) := fun i i0 i1 => by
  have e := hg i i0 i1
  have ej := hg j j0 j1
  unfold fW8 zU
  split
  · split <;> omega
  · exact e
theorem zGd_slot {a b : Int → Int} (e : ∀ k, 0 ≤ k → k < 146 → b k = a k) (h : zGd a) : zGd b := by
  obtain ⟨w1, w2, w3, w4⟩ := h
  refine ⟨by rw [e 0 (by omega) (by omega)]; exact w1, by rw [e 1 (by omega) (by omega)]; exact w2, fun g g0 g1 => ?_, fun g g0 g1 => ?_⟩
  · rw [e _ (by omega) (by omega)]
    exact w3 g g0 g1
  · rw [e _ (by omega) (by omega)]
    exact w4 g g0 g1
theorem fLd_zU {a : Int → Int} {s g x : Int} : fLd (zU a (153 + 15 * s + g) x) s = zU (fLd a s) g x := by
  funext i
  unfold fLd zU
  by_cases e : i = g
  · rw [if_pos e, if_pos (by omega)]
  · rw [if_neg e, if_neg (by omega)]
theorem fOne_is' : ∀ c : Nat, c < 64 → ∀ y : Nat, y < 6 → (fOne c = y ↔ (c : Int) = zShl 1 y) := by decide +kernel
theorem fOne_is {c y : Int} (h0 : 0 ≤ c) (h1 : c < 64) (y0 : 0 ≤ y) (y1 : y < 6) : fOne c = y ↔ c = zShl 1 y := by
  have h9 := fOne_is' c.toNat (by omega) y.toNat (by omega)
  rw [Int.toNat_of_nonneg h0, Int.toNat_of_nonneg y0] at h9
  exact h9
def tStow (a : Int → Int) (s : Int) : Int → Bool := fun i => decide (i % 8 < a 1 ∧ fCapW a s (i % 8) (i / 8) ≠ fCapN a s 0)
def fStow (a : Int → Int) (s : Int) : Int := zFst (tStow a s) 480 8
def fRoom (a : Int → Int) (s : Int) : Int := a (149 + 15 * s) - fTons (fLd a s)
theorem fRoom_b {a : Int → Int} (v : zIv a) {s : Int} (h0 : 0 ≤ s) (h1 : s < a 3) : 0 ≤ fRoom a s ∧ fRoom a s ≤ 60 := by
  have h4 := (zIships v).2
  have h9 := zIfull v s h0 h1
  have h8 := zIhold v s h0 h1
  have h7 := (fTons_b (zLd_iv v (s := s) h0 (by omega))).1
  unfold fRoom
  omega
def tPas (a : Int → Int) (s y : Int) : Int → Bool := fun i => decide (i % 8 < a 1 ∧ fOne (fCapW a s (i % 8) (i / 8)) = y)
def fPasI (a : Int → Int) (s y : Int) : Int := if fFl a s = y then -1 else zFst (tPas a s y) (8 * fRoom a s).toNat 8
def tGuard (a : Int → Int) (s n : Int) : Int → Bool := fun g => decide (fCapW a s g n ≠ fCapN a s 0 ∨ fCapW a s g (-n) ≠ fCapN a s 0)
def fFlW (a : Int → Int) (s g m : Int) : Int := fOne (fCapW a s g m)
theorem fCapW_b {a : Int → Int} (v : zIv a) {s g m : Int} : 0 ≤ fCapW a s g m ∧ fCapW a s g m < 64 := fCap_b (zIgd v)
theorem fFlW_b {a : Int → Int} {s g m : Int} : -1 ≤ fFlW a s g m ∧ fFlW a s g m < 6 := fOne_b
def fPcost (a : Int → Int) (s g : Int) : Int := fRoom a s * a (57 + 15 * a (146 + 15 * s) + g)
def fPc (a : Int → Int) (s : Int) : Nat → Int × Int
  | 0 => (-1, 1000000)
  | g + 1 => if a (57 + 15 * a (146 + 15 * s) + g) = 0 ∨ (fPc a s g).2 ≤ fPcost a s g ∨ (fFlW a s g (fRoom a s) ≠ -1 ∧ a (11 + 4 * fFlW a s g (fRoom a s)) ≠ 0) then fPc a s g else (g, fPcost a s g)
theorem fPc_next {a : Int → Int} {s i : Int} (h0 : 0 ≤ i) : fPc a s (i + 1).toNat = if a (57 + 15 * a (146 + 15 * s) + i) = 0 ∨ (fPc a s i.toNat).2 ≤ fPcost a s i ∨ (fFlW a s i (fRoom a s) ≠ -1 ∧ a (11 + 4 * fFlW a s i (fRoom a s)) ≠ 0) then fPc a s i.toNat else (i, fPcost a s i) := by
  have e : (i + 1).toNat = i.toNat + 1 := by omega
  have e2 := Int.toNat_of_nonneg h0
  rw [e]
  show (if a (57 + 15 * a (146 + 15 * s) + ((i.toNat : Nat) : Int)) = 0 ∨ (fPc a s i.toNat).2 ≤ fPcost a s ((i.toNat : Nat) : Int) ∨ (fFlW a s ((i.toNat : Nat) : Int) (fRoom a s) ≠ -1 ∧ a (11 + 4 * fFlW a s ((i.toNat : Nat) : Int) (fRoom a s)) ≠ 0) then fPc a s i.toNat else (((i.toNat : Nat) : Int), fPcost a s ((i.toNat : Nat) : Int))) = _
  rw [e2]
theorem fPcost_b {a : Int → Int} (v : zIv a) {s g : Int} (h0 : 0 ≤ s) (h1 : s < a 3) (hn : a (146 + 15 * s) ≠ -1) (g0 : 0 ≤ g) (g1 : g < 8) : 0 ≤ fPcost a s g ∧ fPcost a s g ≤ 5940 := by
  have hr := fRoom_b v h0 h1
  have hat := zAt_b v h0 h1 hn
  have hp := zIpr v _ g hat.1 hat.2.1 g0 g1
  exact zMul_b hr.1 hr.2 hp.1 hp.2 (by omega)
theorem fPc_b {a : Int → Int} (v : zIv a) {s : Int} (h0 : 0 ≤ s) (h1 : s < a 3) (hn : a (146 + 15 * s) ≠ -1) : ∀ g : Nat, g ≤ 8 → (((fPc a s g).1 = -1 ∧ (fPc a s g).2 = 1000000) ∨ (0 ≤ (fPc a s g).1 ∧ (fPc a s g).1 < g ∧ 0 ≤ (fPc a s g).2 ∧ (fPc a s g).2 ≤ 5940))
  | 0, _ => Or.inl ⟨rfl, rfl⟩
  | g + 1, hg => by
    have ih := fPc_b v h0 h1 hn g (by omega)
    have hc := fPcost_b v h0 h1 hn (g := g) (by omega) (by omega)
    rw [show fPc a s (g + 1) = if a (57 + 15 * a (146 + 15 * s) + g) = 0 ∨ (fPc a s g).2 ≤ fPcost a s g ∨ (fFlW a s g (fRoom a s) ≠ -1 ∧ a (11 + 4 * fFlW a s g (fRoom a s)) ≠ 0) then fPc a s g else (g, fPcost a s g) from rfl]
    split
    · rcases ih with h | h
      · exact Or.inl h
      · exact Or.inr ⟨h.1, by omega, h.2.2⟩
    · exact Or.inr ⟨by show (0 : Int) ≤ g; omega, by show (g : Int) < ((g + 1 : Nat) : Int); omega, hc.1, hc.2⟩
def oStow (a : Int → Int) (s : Int) : Int × Int := if 0 ≤ s ∧ s < a 3 then (if fStow a s = -1 then (-1, 6) else (fStow a s / 8, 0)) else (-1, 1)
def oStowG (a : Int → Int) (s : Int) : Int × Int := if 0 ≤ s ∧ s < a 3 then (if fStow a s = -1 then (-1, 6) else (fStow a s % 8, 0)) else (-1, 1)
def oGuard (a : Int → Int) (s n : Int) : Int × Int := if (0 ≤ s ∧ s < a 3) ∧ (1 ≤ n ∧ n ≤ 60) then (if zFst (tGuard a s n) (a 1).toNat 0 = -1 then (1, 0) else (0, 0)) else (-1, 1)
def oPassFor (a : Int → Int) (s y : Int) : Int × Int := if (0 ≤ s ∧ s < a 3) ∧ (0 ≤ y ∧ y < a 0) then (if fFl a s = y then (0, 0) else if fPasI a s y = -1 then (-1, 6) else (fPasI a s y / 8, 0)) else (-1, 1)
def oPassGood (a : Int → Int) (s y : Int) : Int × Int := if (0 ≤ s ∧ s < a 3) ∧ (0 ≤ y ∧ y < a 0) then (if fPasI a s y = -1 then (-1, 6) else (fPasI a s y % 8, 0)) else (-1, 1)
def oPeace (a : Int → Int) (s : Int) : Int × Int := if 0 ≤ s ∧ s < a 3 then (if a (146 + 15 * s) = -1 then (-1, 7) else if (fPc a s (a 1).toNat).1 = -1 then (-1, 6) else ((fPc a s (a 1).toNat).1, 0)) else (-1, 1)
def oPeaceCost (a : Int → Int) (s : Int) : Int × Int := if 0 ≤ s ∧ s < a 3 then (if a (146 + 15 * s) = -1 then (-1, 7) else if (fPc a s (a 1).toNat).1 = -1 then (-1, 6) else ((fPc a s (a 1).toNat).2, 0)) else (-1, 1)
section O11
variable {d : Nat} {h : zHp} {Q : zRs → Prop} {a f nm : Int → Int}
theorem zSx_g {h1 : zHp} {j x : Int} (a : zSx h h1) (hj : j = 14 ∨ j = 15 ∨ j = 16 ∨ j = 20 ∨ j = 22) : zSx h (sI h1 65 j x) := zSx_tr a ⟨rfl, rfl, rfl, fun _ _ => rfl, fun _ _ => rfl, fun b h0 _ => gI_sI_ne h0, fun i _ i1 i2 i3 i4 i5 => by rw [gI_sI_eq, zU_ne (by omega)]⟩
theorem cX_captains20 {w : Nat} {s : Int} (ha : zGd a) (hl : zLd (fLd a s)) (hgn : ∀ g, 0 ≤ g → g < a 1 → 0 ≤ a (32 + 3 * g) ∧ a (32 + 3 * g) < a 0) (P : zPw h w a nm) (h0 : 0 ≤ s) (h1 : s < 4) (hQ : ∀ f, Q (zRv (zi (fCap a (fLd a s) (a 4))) (sIA h (w + 15) f))) : zCm mX5_captains_2 d [zr (some w), zi s] h Q := by
  have W := P.2.1
  have e4 := P.2.2.1.2.2.2.2.1
  simp (disch := (first | (simp only [gK_sI, gK_sJ, gK_sR, gK_sIA, gK_sJA, gR_sI, gR_sJ, gR_sIA, Nat.reduceLeDiff, Nat.reduceEqDiff, Nat.reduceLT, Int.reduceLE, Int.reduceLT, Int.reduceEq, zWt_i, zWt_l, zWt_r, zWt_n, W, zWkk W] <;> omega) | omega | fail)) only [if_pos, if_neg, wI_id, zLc_lt, zLc_gt, zLc_eq, zLc_le, zLc_ge, Int.reduceEq, Int.reduceLE, Int.reduceLT, Int.reduceNeg, Int.reduceAdd, Int.reduceMul, Int.reduceSub, not_true_eq_false, not_false_eq_true, reduceIte, zPo_v, zPo_n, zPo_t, zKl_i, zKl_r, zKl_n, zKl_l, gK_sI, gK_sJ, gK_sR, gK_sIA, gK_sJA, gR_sI, gR_sJ, gJ_sI, gI_sJ, gI_sR, gJ_sR, gR_sIA, gJ_sIA, Nat.reduceLeDiff, Nat.reduceEqDiff, and_self, and_true, true_and, and_false, false_and, eX5_captains_2_0, eX5_captains_2_1, eX5_captains_2_2, eX5_captains_2_3, eX5_captains_2_6, eX5_captains_2_9, eX5_captains_2_in, e4]
  refine cX_captains0 ha hl hgn P h0 h1 (fun g => ?_)
  simp (disch := (first | (simp only [gK_sI, gK_sJ, gK_sR, gK_sIA, gK_sJA, gR_sI, gR_sJ, gR_sIA, Nat.reduceLeDiff, Nat.reduceEqDiff, Nat.reduceLT, Int.reduceLE, Int.reduceLT, Int.reduceEq, zWt_i, zWt_l, zWt_r, zWt_n] <;> omega) | omega | fail)) only [if_pos, if_neg, wI_id, zLc_lt, zLc_gt, zLc_eq, zLc_le, zLc_ge, Int.reduceEq, Int.reduceLE, Int.reduceLT, Int.reduceNeg, Int.reduceAdd, Int.reduceMul, Int.reduceSub, not_true_eq_false, not_false_eq_true, reduceIte, zPo_v, zPo_n, zPo_t, zKl_i, zKl_r, zKl_n, zKl_l, gK_sI, gK_sJ, gK_sR, gK_sIA, gK_sJA, gR_sI, gR_sJ, gJ_sI, gI_sJ, gI_sR, gJ_sR, gR_sIA, gJ_sIA, Nat.reduceLeDiff, Nat.reduceEqDiff, and_self, and_true, true_and, and_false, false_and, eX5_captains_2_0, eX5_captains_2_1, eX5_captains_2_2, eX5_captains_2_3, eX5_captains_2_6, eX5_captains_2_9, eX5_captains_2_in]
  exact hQ g
theorem kX0_captainsWith {s g m : Int} (K : zXk h) (v : zIv a) (P : zPw h 75 a nm) (h0 : 0 ≤ s) (h1 : s < a 3) (g0 : 0 ≤ g) (g1 : g < 8) (m0 : -60 ≤ m) (m1 : m ≤ 60) (hQ : ∀ h', zPw h' 75 a nm → zSw 75 h h' → Q (zRv (zi (fCapW a s g m)) h')) : zCm mX0_captainsWith d [zr (some 65), zi s, zi g, zi m] h Q := by
  have W := P.2.1
  have h4 := (zIships v).2
  have e1 : gI h 89 (8 * s + g) = a (153 + 15 * s + g) := P.2.2.1.2.2.2.2.2.2.2.2.2.2.2 s g h0 (by omega) g0 g1
  have ht := zIton v s g h0 (by omega) g0 g1
  have P1 := zPw_ton (x := max 0 (a (153 + 15 * s + g) + m)) v P h0 (by omega) g0 g1
  have eb : ∀ k, 0 ≤ k → k < 146 → zU a (153 + 15 * s + g) (max 0 (a (153 + 15 * s + g) + m)) k = a k := fun k k0 k1 => zU_ne (by omega)
  have el : fLd (zU a (153 + 15 * s + g) (max 0 (a (153 + 15 * s + g) + m))) s = fW8 (fLd a s) g m := fLd_zU
  have em : (if 0 < a (153 + 15 * s + g) + m then a (153 + 15 * s + g) + m else 0) = max 0 (a (153 + 15 * s + g) + m) := by
    rw [Int.max_def]
    split <;> split <;> omega
  have g9 := (zIgd v).2.1
  have K9 : ∀ x, zXk (sI h 89 (8 * s + g) x) := fun _ => K
  simp (disch := (first | (simp only [gK_sI, gK_sJ, gK_sR, gK_sIA, gK_sJA, gR_sI, gR_sJ, gR_sIA, Nat.reduceLeDiff, Nat.reduceEqDiff, Nat.reduceLT, Int.reduceLE, Int.reduceLT, Int.reduceEq, zWt_i, zWt_l, zWt_r, zWt_n, K, zXkk K, zXh0 K, W, zWkk W, zWr19 W, zWk19 W, K9] <;> omega) | omega | fail)) only [wI_id, zLc_lt, zLc_gt, zLc_eq, zLc_le, zLc_ge, Int.reduceEq, Int.reduceLE, Int.reduceLT, Int.reduceNeg, Int.reduceAdd, Int.reduceMul, Int.reduceSub, not_true_eq_false, not_false_eq_true, reduceIte, zPo_v, zPo_n, zPo_t, zKl_i, zKl_r, zKl_n, zKl_l, gK_sI, gK_sJ, gK_sR, gK_sIA, gK_sJA, gR_sI, gR_sJ, gJ_sI, gI_sJ, gI_sR, gJ_sR, gR_sIA, gJ_sIA, Nat.reduceLeDiff, Nat.reduceEqDiff, and_self, and_true, true_and, and_false, false_and, eX0_captainsWith_0, eX0_captainsWith_2, eX0_captainsWith_3, eX0_captainsWith_4, eX0_captainsWith_5, eX0_captainsWith_6, eX0_captainsWith_8, eX0_captainsWith_9, eX0_captainsWith_12, eX0_captainsWith_15, eX0_captainsWith_17, eX0_captainsWith_18, eX0_captainsWith_20, eX0_captainsWith_21, eX0_captainsWith_24, eX0_captainsWith_27, eX0_captainsWith_29, eX0_captainsWith_30, eX0_captainsWith_32, eX0_captainsWith_33, eX0_captainsWith_34, eX0_captainsWith_37, eX0_captainsWith_38, eX0_captainsWith_39, eX0_captainsWith_42, eX0_captainsWith_43, eX0_captainsWith_46, eX0_captainsWith_48, eX0_captainsWith_49, eX0_captainsWith_52, eX0_captainsWith_55, eX0_captainsWith_57, eX0_captainsWith_59, eX0_captainsWith_60, eX0_captainsWith_62, tX0_captainsWith, eX0_captainsWith_in, K, zXkk K, zXh0 K, W, zWkk W, zWr19 W, zWk19 W, kX0_at, Nat.reduceAdd, e1, em]
  refine cX_captains20 (w := 75) (zGd_slot eb (zIgd v)) (by rw [el]; exact zLd_w8 v h0 (by omega) g0 g1 m1) (fun i i0 i1 => ?_) P1 h0 (by omega) (fun q => ?_)
  · rw [eb 1 (by omega) (by omega)] at i1
    rw [eb _ (by omega) (by omega), eb 0 (by omega) (by omega)]
    exact zIgn v i i0 i1
  · rw [el, fCap_slot g9.2 eb, eb 4 (by omega) (by omega)]
    have K2 : zXk (sIA (sI h (75 + 14) (8 * s + g) (max 0 (a (153 + 15 * s + g) + m))) (75 + 15) q) := K
    have W2 : zWk (sIA (sI h (75 + 14) (8 * s + g) (max 0 (a (153 + 15 * s + g) + m))) (75 + 15) q) 75 := W
    have hq := hQ (sIA h (75 + 15) q) (zPw_wt P) (zSw_sIA zSw_rf (by omega) (by omega))
    rw [← sI_undo (h := h) (b := 75 + 14) (c := 75 + 15) (j := 8 * s + g) (x := max 0 (a (153 + 15 * s + g) + m)) (f := q) (by decide)] at hq
    have e1' : gI h (75 + 14) (8 * s + g) = a (153 + 15 * s + g) := e1
    rw [e1'] at hq
    simp (disch := (first | (simp only [gK_sI, gK_sJ, gK_sR, gK_sIA, gK_sJA, gR_sI, gR_sJ, gR_sIA, Nat.reduceLeDiff, Nat.reduceEqDiff, Nat.reduceLT, Int.reduceLE, Int.reduceLT, Int.reduceEq, zWt_i, zWt_l, zWt_r, zWt_n, K2, zXkk K2, zXh0 K2, W2, zWkk W2, zWr19 W2, zWk19 W2] <;> omega) | omega | fail)) only [wI_id, zLc_lt, zLc_gt, zLc_eq, zLc_le, zLc_ge, Int.reduceEq, Int.reduceLE, Int.reduceLT, Int.reduceNeg, Int.reduceAdd, Int.reduceMul, Int.reduceSub, not_true_eq_false, not_false_eq_true, reduceIte, zPo_v, zPo_n, zPo_t, zKl_i, zKl_r, zKl_n, zKl_l, gK_sI, gK_sJ, gK_sR, gK_sIA, gK_sJA, gR_sI, gR_sJ, gJ_sI, gI_sJ, gI_sR, gJ_sR, gR_sIA, gJ_sIA, Nat.reduceLeDiff, Nat.reduceEqDiff, and_self, and_true, true_and, and_false, false_and, eX0_captainsWith_0, eX0_captainsWith_2, eX0_captainsWith_3, eX0_captainsWith_4, eX0_captainsWith_5, eX0_captainsWith_6, eX0_captainsWith_8, eX0_captainsWith_9, eX0_captainsWith_12, eX0_captainsWith_15, eX0_captainsWith_17, eX0_captainsWith_18, eX0_captainsWith_20, eX0_captainsWith_21, eX0_captainsWith_24, eX0_captainsWith_27, eX0_captainsWith_29, eX0_captainsWith_30, eX0_captainsWith_32, eX0_captainsWith_33, eX0_captainsWith_34, eX0_captainsWith_37, eX0_captainsWith_38, eX0_captainsWith_39, eX0_captainsWith_42, eX0_captainsWith_43, eX0_captainsWith_46, eX0_captainsWith_48, eX0_captainsWith_49, eX0_captainsWith_52, eX0_captainsWith_55, eX0_captainsWith_57, eX0_captainsWith_59, eX0_captainsWith_60, eX0_captainsWith_62, tX0_captainsWith, eX0_captainsWith_in, K2, zXkk K2, zXh0 K2, W2, zWkk W2, zWr19 W2, zWk19 W2, kX0_at]
    exact hq
theorem zFst_b {t : Int → Bool} : ∀ (n : Nat) (lo : Int), zFst t n lo ≠ -1 → lo ≤ zFst t n lo ∧ zFst t n lo < lo + n
  | 0, _, h => absurd rfl h
  | n + 1, lo, h => by
    have e : zFst t (n + 1) lo = if t lo = true then lo else zFst t n (lo + 1) := rfl
    by_cases c : t lo = true
    · rw [e, if_pos c]
      omega
    · rw [e, if_neg c] at h ⊢
      have := zFst_b n (lo + 1) h
      omega
theorem fStow_b {s : Int} (h : fStow a s ≠ -1) : 1 ≤ fStow a s / 8 ∧ 0 ≤ fStow a s % 8 := by
  have h9 : 8 ≤ fStow a s ∧ fStow a s < 8 + ((480 : Nat) : Int) := zFst_b 480 8 h
  omega
/-! stowaways -/
theorem kM_stows {s : Int} (P : zMk h) (v : zIv a) (h0 : 0 ≤ s) (h1 : s < a 3) (hQ : ∀ h1 g, zSm h h1 → (fStow a s ≠ -1 → gI h1 113 25 = fStow a s % 8) → Q (zRv (zi (if fStow a s = -1 then -1 else fStow a s / 8)) (zH2 h1 a g))) : zCm mX6_stows d [zr (some 113), zi s] (zH2 h a f) Q := by
  have h4 := (zIships v).2
  have b1 := (zIgd v).2.1
  simp (disch := (first | (simp only [gK_sI, gK_sJ, gK_sR, gK_sIA, gK_sJA, gR_sI, gR_sJ, gR_sIA, Nat.reduceLeDiff, Nat.reduceEqDiff, Nat.reduceLT, Int.reduceLE, Int.reduceLT, Int.reduceEq, zWt_i, zWt_l, zWt_r, zWt_n, zH2_gK, zH2_mk, P, zMkk P, zMr0 P, zMk0 P, zMr24 P, zMk24 P] <;> omega) | omega | fail)) only [if_pos, if_neg, wI_id, zLc_lt, zLc_gt, zLc_eq, zLc_le, zLc_ge, Int.reduceEq, Int.reduceLE, Int.reduceLT, Int.reduceNeg, Int.reduceAdd, Int.reduceMul, Int.reduceSub, not_true_eq_false, not_false_eq_true, reduceIte, zPo_v, zPo_n, zPo_t, zKl_i, zKl_r, zKl_n, zKl_l, gK_sI, gK_sJ, gK_sR, gK_sIA, gK_sJA, gR_sI, gR_sJ, gJ_sI, gI_sJ, gI_sR, gJ_sR, gR_sIA, gJ_sIA, Nat.reduceLeDiff, Nat.reduceEqDiff, and_self, and_true, true_and, and_false, false_and, eX6_stows_0, eX6_stows_1, eX6_stows_2, eX6_stows_3, eX6_stows_6, eX6_stows_7, eX6_stows_8, eX6_stows_11, eX6_stows_12, eX6_stows_13, eX6_stows_15, eX6_stows_17, eX6_stows_20, eX6_stows_21, eX6_stows_22, eX6_stows_26, eX6_stows_29, eX6_stows_30, eX6_stows_33, eX6_stows_34, eX6_stows_35, eX6_stows_38, eX6_stows_39, eX6_stows_40, eX6_stows_43, eX6_stows_44, eX6_stows_47, eX6_stows_48, eX6_stows_51, eX6_stows_52, eX6_stows_53, eX6_stows_54, eX6_stows_55, eX6_stows_56, eX6_stows_57, eX6_stows_60, eX6_stows_61, eX6_stows_64, eX6_stows_65, eX6_stows_66, eX6_stows_67, eX6_stows_68, eX6_stows_71, eX6_stows_72, eX6_stows_73, eX6_stows_76, eX6_stows_79, eX6_stows_82, eX6_stows_85, eX6_stows_86, eX6_stows_in, zH2_gK, zH2_gR, zH2_at, zH2_sI, zU_ne, P, zMkk P, zMr0 P, zMk0 P, zMr24 P, zMk24 P]
  refine kM_captainsOf P v h0 (by omega) (fun g => ?_)
  rw [← fCapN_0 v h0 h1]
  simp (disch := (first | (simp only [gK_sI, gK_sJ, gK_sR, gK_sIA, gK_sJA, gR_sI, gR_sJ, gR_sIA, Nat.reduceLeDiff, Nat.reduceEqDiff, Nat.reduceLT, Int.reduceLE, Int.reduceLT, Int.reduceEq, zWt_i, zWt_l, zWt_r, zWt_n, zH2_gK, zH2_mk, P, zMkk P, zMr0 P, zMk0 P, zMr24 P, zMk24 P] <;> omega) | omega | fail)) only [if_pos, if_neg, wI_id, zLc_lt, zLc_gt, zLc_eq, zLc_le, zLc_ge, Int.reduceEq, Int.reduceLE, Int.reduceLT, Int.reduceNeg, Int.reduceAdd, Int.reduceMul, Int.reduceSub, not_true_eq_false, not_false_eq_true, reduceIte, zPo_v, zPo_n, zPo_t, zKl_i, zKl_r, zKl_n, zKl_l, gK_sI, gK_sJ, gK_sR, gK_sIA, gK_sJA, gR_sI, gR_sJ, gJ_sI, gI_sJ, gI_sR, gJ_sR, gR_sIA, gJ_sIA, Nat.reduceLeDiff, Nat.reduceEqDiff, and_self, and_true, true_and, and_false, false_and, eX6_stows_0, eX6_stows_1, eX6_stows_2, eX6_stows_3, eX6_stows_6, eX6_stows_7, eX6_stows_8, eX6_stows_11, eX6_stows_12, eX6_stows_13, eX6_stows_15, eX6_stows_17, eX6_stows_20, eX6_stows_21, eX6_stows_22, eX6_stows_26, eX6_stows_29, eX6_stows_30, eX6_stows_33, eX6_stows_34, eX6_stows_35, eX6_stows_38, eX6_stows_39, eX6_stows_40, eX6_stows_43, eX6_stows_44, eX6_stows_47, eX6_stows_48, eX6_stows_51, eX6_stows_52, eX6_stows_53, eX6_stows_54, eX6_stows_55, eX6_stows_56, eX6_stows_57, eX6_stows_60, eX6_stows_61, eX6_stows_64, eX6_stows_65, eX6_stows_66, eX6_stows_67, eX6_stows_68, eX6_stows_71, eX6_stows_72, eX6_stows_73, eX6_stows_76, eX6_stows_79, eX6_stows_82, eX6_stows_85, eX6_stows_86, eX6_stows_in, zH2_gK, zH2_gR, zH2_at, zH2_sI, zU_ne, P, zMkk P, zMr0 P, zMk0 P, zMr24 P, zMk24 P]
  refine zLoop 61 (fun n ls h' => 1 ≤ n ∧ (∀ j, 8 ≤ j → j < 8 * n → tStow a s j = false) ∧ ∃ h1 g, zSm h h1 ∧ h' = zH2 h1 a g ∧ ls = [some (zr (some 113)), some (zi s), some (zi (fCapN a s 0)), some (zi n)]) ?_ ?_ 1 _ _ (by omega) ⟨by omega, fun j j0 j1 => by omega, h, g, zSm_rf, rfl, rfl⟩
  · rintro n _ _ hn ⟨hn0, hj, h1', g, S1, rfl, rfl⟩ k
    have Q1 : zMk h1' := zMk_sm S1 P
    rw [eX6_stows_14]
    simp (disch := (first | (simp only [gK_sI, gK_sJ, gK_sR, gK_sIA, gK_sJA, gR_sI, gR_sJ, gR_sIA, Nat.reduceLeDiff, Nat.reduceEqDiff, Nat.reduceLT, Int.reduceLE, Int.reduceLT, Int.reduceEq, zWt_i, zWt_l, zWt_r, zWt_n, zH2_gK, zH2_mk, Q1, zMkk Q1, zMr0 Q1, zMk0 Q1, zMr24 Q1, zMk24 Q1] <;> omega) | omega | fail)) only [if_pos, if_neg, wI_id, zLc_lt, zLc_gt, zLc_eq, zLc_le, zLc_ge, Int.reduceEq, Int.reduceLE, Int.reduceLT, Int.reduceNeg, Int.reduceAdd, Int.reduceMul, Int.reduceSub, not_true_eq_false, not_false_eq_true, reduceIte, zPo_v, zPo_n, zPo_t, zKl_i, zKl_r, zKl_n, zKl_l, gK_sI, gK_sJ, gK_sR, gK_sIA, gK_sJA, gR_sI, gR_sJ, gJ_sI, gI_sJ, gI_sR, gJ_sR, gR_sIA, gJ_sIA, Nat.reduceLeDiff, Nat.reduceEqDiff, and_self, and_true, true_and, and_false, false_and, eX6_stows_0, eX6_stows_1, eX6_stows_2, eX6_stows_3, eX6_stows_6, eX6_stows_7, eX6_stows_8, eX6_stows_11, eX6_stows_12, eX6_stows_13, eX6_stows_15, eX6_stows_17, eX6_stows_20, eX6_stows_21, eX6_stows_22, eX6_stows_26, eX6_stows_29, eX6_stows_30, eX6_stows_33, eX6_stows_34, eX6_stows_35, eX6_stows_38, eX6_stows_39, eX6_stows_40, eX6_stows_43, eX6_stows_44, eX6_stows_47, eX6_stows_48, eX6_stows_51, eX6_stows_52, eX6_stows_53, eX6_stows_54, eX6_stows_55, eX6_stows_56, eX6_stows_57, eX6_stows_60, eX6_stows_61, eX6_stows_64, eX6_stows_65, eX6_stows_66, eX6_stows_67, eX6_stows_68, eX6_stows_71, eX6_stows_72, eX6_stows_73, eX6_stows_76, eX6_stows_79, eX6_stows_82, eX6_stows_85, eX6_stows_86, eX6_stows_in, zH2_gK, zH2_gR, zH2_at, zH2_sI, zU_ne, Q1, zMkk Q1, zMr0 Q1, zMk0 Q1, zMr24 Q1, zMk24 Q1, zH2_sIne]
    refine zLoop (a 1) (fun i ls h' => 0 ≤ i ∧ (∀ j, 8 ≤ j → j < 8 * n + i → tStow a s j = false) ∧ ∃ h1 g, zSm h h1 ∧ gI h1 113 25 = i ∧ h' = zH2 h1 a g ∧ ls = [some (zr (some 113)), some (zi s), some (zi (fCapN a s 0)), some (zi n)]) ?_ ?_ 0 _ _ b1.1 ⟨by omega, fun j j0 j1 => hj j j0 (by omega), _, g, zSm_sI S1 (by decide), by rw [gI_sI_eq, zU_eq], rfl, rfl⟩
    · rintro i _ _ hi ⟨hi0, hj2, h2, g2, S2, e2, rfl, rfl⟩ k2
      have Q2 : zMk h2 := zMk_sm S2 P
      have e2' : gI (zH2 h2 a g2) 113 25 = i := by rw [zH2_ne (by decide) (by decide)]; exact e2
      rw [eX6_stows_25]
      simp (disch := (first | (simp only [gK_sI, gK_sJ, gK_sR, gK_sIA, gK_sJA, gR_sI, gR_sJ, gR_sIA, Nat.reduceLeDiff, Nat.reduceEqDiff, Nat.reduceLT, Int.reduceLE, Int.reduceLT, Int.reduceEq, zWt_i, zWt_l, zWt_r, zWt_n, zH2_gK, zH2_mk, Q2, zMkk Q2, zMr0 Q2, zMk0 Q2, zMr24 Q2, zMk24 Q2] <;> omega) | omega | fail)) only [if_pos, if_neg, wI_id, zLc_lt, zLc_gt, zLc_eq, zLc_le, zLc_ge, Int.reduceEq, Int.reduceLE, Int.reduceLT, Int.reduceNeg, Int.reduceAdd, Int.reduceMul, Int.reduceSub, not_true_eq_false, not_false_eq_true, reduceIte, zPo_v, zPo_n, zPo_t, zKl_i, zKl_r, zKl_n, zKl_l, gK_sI, gK_sJ, gK_sR, gK_sIA, gK_sJA, gR_sI, gR_sJ, gJ_sI, gI_sJ, gI_sR, gJ_sR, gR_sIA, gJ_sIA, Nat.reduceLeDiff, Nat.reduceEqDiff, and_self, and_true, true_and, and_false, false_and, eX6_stows_0, eX6_stows_1, eX6_stows_2, eX6_stows_3, eX6_stows_6, eX6_stows_7, eX6_stows_8, eX6_stows_11, eX6_stows_12, eX6_stows_13, eX6_stows_15, eX6_stows_17, eX6_stows_20, eX6_stows_21, eX6_stows_22, eX6_stows_26, eX6_stows_29, eX6_stows_30, eX6_stows_33, eX6_stows_34, eX6_stows_35, eX6_stows_38, eX6_stows_39, eX6_stows_40, eX6_stows_43, eX6_stows_44, eX6_stows_47, eX6_stows_48, eX6_stows_51, eX6_stows_52, eX6_stows_53, eX6_stows_54, eX6_stows_55, eX6_stows_56, eX6_stows_57, eX6_stows_60, eX6_stows_61, eX6_stows_64, eX6_stows_65, eX6_stows_66, eX6_stows_67, eX6_stows_68, eX6_stows_71, eX6_stows_72, eX6_stows_73, eX6_stows_76, eX6_stows_79, eX6_stows_82, eX6_stows_85, eX6_stows_86, eX6_stows_in, zH2_gK, zH2_gR, zH2_at, zH2_sI, zU_ne, Q2, zMkk Q2, zMr0 Q2, zMk0 Q2, zMr24 Q2, zMk24 Q2, e2']
      refine kM_loads Q2 h0 (by omega) (fun g3 hg3 => ?_)
      have e3' : gI (zH2 h2 a g3) 113 25 = i := by rw [zH2_ne (by decide) (by decide)]; exact e2
      have hg3i := hg3 i hi0 (by omega)
      have ht := zLd_iv v h0 (by omega : s < 4) i hi0 (by omega)
      have hup := zEq8_up v h0 (by omega : s < 4) hi0 (by omega : i < 8) (by omega : 0 ≤ n) hg3
      have hl := zLd_w8 v h0 (by omega : s < 4) hi0 (by omega : i < 8) (by omega : n ≤ 60)
      have ec : fCap a (fW8 (fLd a s) i n) (a 4) = fCapW a s i n := rfl
      have d1 : (8 * n + i) % 8 = i := by omega
      have d2 : (8 * n + i) / 8 = n := by omega
      have e4' : ∀ g4, gI (zH2 h2 a g4) 113 25 = i := fun g4 => by rw [zH2_ne (by decide) (by decide)]; exact e2
      by_cases c : fCapW a s i n = fCapN a s 0
      · simp (disch := (first | (simp only [gK_sI, gK_sJ, gK_sR, gK_sIA, gK_sJA, gR_sI, gR_sJ, gR_sIA, Nat.reduceLeDiff, Nat.reduceEqDiff, Nat.reduceLT, Int.reduceLE, Int.reduceLT, Int.reduceEq, zWt_i, zWt_l, zWt_r, zWt_n, zH2_gK, zH2_mk, Q2, zMkk Q2, zMr0 Q2, zMk0 Q2, zMr24 Q2, zMk24 Q2] <;> omega) | omega | fail)) only [if_pos, if_neg, wI_id, zLc_lt, zLc_gt, zLc_eq, zLc_le, zLc_ge, Int.reduceEq, Int.reduceLE, Int.reduceLT, Int.reduceNeg, Int.reduceAdd, Int.reduceMul, Int.reduceSub, not_true_eq_false, not_false_eq_true, reduceIte, zPo_v, zPo_n, zPo_t, zKl_i, zKl_r, zKl_n, zKl_l, gK_sI, gK_sJ, gK_sR, gK_sIA, gK_sJA, gR_sI, gR_sJ, gJ_sI, gI_sJ, gI_sR, gJ_sR, gR_sIA, gJ_sIA, Nat.reduceLeDiff, Nat.reduceEqDiff, and_self, and_true, true_and, and_false, false_and, eX6_stows_0, eX6_stows_1, eX6_stows_2, eX6_stows_3, eX6_stows_6, eX6_stows_7, eX6_stows_8, eX6_stows_11, eX6_stows_12, eX6_stows_13, eX6_stows_15, eX6_stows_17, eX6_stows_20, eX6_stows_21, eX6_stows_22, eX6_stows_26, eX6_stows_29, eX6_stows_30, eX6_stows_33, eX6_stows_34, eX6_stows_35, eX6_stows_38, eX6_stows_39, eX6_stows_40, eX6_stows_43, eX6_stows_44, eX6_stows_47, eX6_stows_48, eX6_stows_51, eX6_stows_52, eX6_stows_53, eX6_stows_54, eX6_stows_55, eX6_stows_56, eX6_stows_57, eX6_stows_60, eX6_stows_61, eX6_stows_64, eX6_stows_65, eX6_stows_66, eX6_stows_67, eX6_stows_68, eX6_stows_71, eX6_stows_72, eX6_stows_73, eX6_stows_76, eX6_stows_79, eX6_stows_82, eX6_stows_85, eX6_stows_86, eX6_stows_in, zH2_gK, zH2_gR, zH2_at, zH2_sI, zU_ne, Q2, zMkk Q2, zMr0 Q2, zMk0 Q2, zMr24 Q2, zMk24 Q2, e4', zH2_ld, zH2_sIl, kM_captainsNow Q2 v hup hl, ec, c, zH2_sIne]
        refine k2 _ _ ⟨by omega, fun j j0 j1 => ?_, _, _, zSm_sI S2 (by decide), by rw [gI_sI_eq, zU_eq], rfl, rfl⟩
        by_cases ej : j = 8 * n + i
        · rw [ej]
          unfold tStow
          rw [d1, d2]
          exact decide_eq_false (fun h => h.2 c)
        · exact hj2 j j0 (by omega)
      · have et : fStow a s = 8 * n + i := zFst_at 480 8 _ (by omega) (by omega) hj2 (by
          unfold tStow
          rw [d1, d2]
          exact decide_eq_true ⟨hi, c⟩)
        simp (disch := (first | (simp only [gK_sI, gK_sJ, gK_sR, gK_sIA, gK_sJA, gR_sI, gR_sJ, gR_sIA, Nat.reduceLeDiff, Nat.reduceEqDiff, Nat.reduceLT, Int.reduceLE, Int.reduceLT, Int.reduceEq, zWt_i, zWt_l, zWt_r, zWt_n, zH2_gK, zH2_mk, Q2, zMkk Q2, zMr0 Q2, zMk0 Q2, zMr24 Q2, zMk24 Q2] <;> omega) | omega | fail)) only [if_pos, if_neg, wI_id, zLc_lt, zLc_gt, zLc_eq, zLc_le, zLc_ge, Int.reduceEq, Int.reduceLE, Int.reduceLT, Int.reduceNeg, Int.reduceAdd, Int.reduceMul, Int.reduceSub, not_true_eq_false, not_false_eq_true, reduceIte, zPo_v, zPo_n, zPo_t, zKl_i, zKl_r, zKl_n, zKl_l, gK_sI, gK_sJ, gK_sR, gK_sIA, gK_sJA, gR_sI, gR_sJ, gJ_sI, gI_sJ, gI_sR, gJ_sR, gR_sIA, gJ_sIA, Nat.reduceLeDiff, Nat.reduceEqDiff, and_self, and_true, true_and, and_false, false_and, eX6_stows_0, eX6_stows_1, eX6_stows_2, eX6_stows_3, eX6_stows_6, eX6_stows_7, eX6_stows_8, eX6_stows_11, eX6_stows_12, eX6_stows_13, eX6_stows_15, eX6_stows_17, eX6_stows_20, eX6_stows_21, eX6_stows_22, eX6_stows_26, eX6_stows_29, eX6_stows_30, eX6_stows_33, eX6_stows_34, eX6_stows_35, eX6_stows_38, eX6_stows_39, eX6_stows_40, eX6_stows_43, eX6_stows_44, eX6_stows_47, eX6_stows_48, eX6_stows_51, eX6_stows_52, eX6_stows_53, eX6_stows_54, eX6_stows_55, eX6_stows_56, eX6_stows_57, eX6_stows_60, eX6_stows_61, eX6_stows_64, eX6_stows_65, eX6_stows_66, eX6_stows_67, eX6_stows_68, eX6_stows_71, eX6_stows_72, eX6_stows_73, eX6_stows_76, eX6_stows_79, eX6_stows_82, eX6_stows_85, eX6_stows_86, eX6_stows_in, zH2_gK, zH2_gR, zH2_at, zH2_sI, zU_ne, Q2, zMkk Q2, zMr0 Q2, zMk0 Q2, zMr24 Q2, zMk24 Q2, e4', zH2_ld, zH2_sIl, kM_captainsNow Q2 v hup hl, ec, c]
        have hq := hQ h2 (zU g3 i (g3 i + n)) S2 (fun _ => by rw [e2, et, d1])
        rw [if_neg (by omega), et, d2] at hq
        exact hq
    · rintro _ _ ⟨-, hj2, h2, g2, S2, e2, rfl, rfl⟩
      have Q2 : zMk h2 := zMk_sm S2 P
      have e2' : gI (zH2 h2 a g2) 113 25 = a 1 := by rw [zH2_ne (by decide) (by decide)]; exact e2
      rw [eX6_stows_25]
      simp (disch := (first | (simp only [gK_sI, gK_sJ, gK_sR, gK_sIA, gK_sJA, gR_sI, gR_sJ, gR_sIA, Nat.reduceLeDiff, Nat.reduceEqDiff, Nat.reduceLT, Int.reduceLE, Int.reduceLT, Int.reduceEq, zWt_i, zWt_l, zWt_r, zWt_n, zH2_gK, zH2_mk, Q2, zMkk Q2, zMr0 Q2, zMk0 Q2, zMr24 Q2, zMk24 Q2] <;> omega) | omega | fail)) only [if_pos, if_neg, wI_id, zLc_lt, zLc_gt, zLc_eq, zLc_le, zLc_ge, Int.reduceEq, Int.reduceLE, Int.reduceLT, Int.reduceNeg, Int.reduceAdd, Int.reduceMul, Int.reduceSub, not_true_eq_false, not_false_eq_true, reduceIte, zPo_v, zPo_n, zPo_t, zKl_i, zKl_r, zKl_n, zKl_l, gK_sI, gK_sJ, gK_sR, gK_sIA, gK_sJA, gR_sI, gR_sJ, gJ_sI, gI_sJ, gI_sR, gJ_sR, gR_sIA, gJ_sIA, Nat.reduceLeDiff, Nat.reduceEqDiff, and_self, and_true, true_and, and_false, false_and, eX6_stows_0, eX6_stows_1, eX6_stows_2, eX6_stows_3, eX6_stows_6, eX6_stows_7, eX6_stows_8, eX6_stows_11, eX6_stows_12, eX6_stows_13, eX6_stows_15, eX6_stows_17, eX6_stows_20, eX6_stows_21, eX6_stows_22, eX6_stows_26, eX6_stows_29, eX6_stows_30, eX6_stows_33, eX6_stows_34, eX6_stows_35, eX6_stows_38, eX6_stows_39, eX6_stows_40, eX6_stows_43, eX6_stows_44, eX6_stows_47, eX6_stows_48, eX6_stows_51, eX6_stows_52, eX6_stows_53, eX6_stows_54, eX6_stows_55, eX6_stows_56, eX6_stows_57, eX6_stows_60, eX6_stows_61, eX6_stows_64, eX6_stows_65, eX6_stows_66, eX6_stows_67, eX6_stows_68, eX6_stows_71, eX6_stows_72, eX6_stows_73, eX6_stows_76, eX6_stows_79, eX6_stows_82, eX6_stows_85, eX6_stows_86, eX6_stows_in, zH2_gK, zH2_gR, zH2_at, zH2_sI, zU_ne, Q2, zMkk Q2, zMr0 Q2, zMk0 Q2, zMr24 Q2, zMk24 Q2, e2']
      refine k _ _ ⟨by omega, fun j j0 j1 => ?_, h2, g2, S2, rfl, rfl⟩
      by_cases ej : j < 8 * n + a 1
      · exact hj2 j j0 ej
      · unfold tStow
        exact decide_eq_false (fun h => by omega)
  · rintro _ _ ⟨-, hj, h1', g, S1, rfl, rfl⟩
    have Q1 : zMk h1' := zMk_sm S1 P
    have et : fStow a s = -1 := zFst_no 480 8 (fun j j0 j1 => hj j j0 (by omega))
    have hq := hQ h1' g S1 (fun h => absurd et h)
    rw [if_pos et] at hq
    rw [eX6_stows_14]
    simp (disch := (first | (simp only [gK_sI, gK_sJ, gK_sR, gK_sIA, gK_sJA, gR_sI, gR_sJ, gR_sIA, Nat.reduceLeDiff, Nat.reduceEqDiff, Nat.reduceLT, Int.reduceLE, Int.reduceLT, Int.reduceEq, zWt_i, zWt_l, zWt_r, zWt_n, zH2_gK, zH2_mk, Q1, zMkk Q1, zMr0 Q1, zMk0 Q1, zMr24 Q1, zMk24 Q1] <;> omega) | omega | fail)) only [if_pos, if_neg, wI_id, zLc_lt, zLc_gt, zLc_eq, zLc_le, zLc_ge, Int.reduceEq, Int.reduceLE, Int.reduceLT, Int.reduceNeg, Int.reduceAdd, Int.reduceMul, Int.reduceSub, not_true_eq_false, not_false_eq_true, reduceIte, zPo_v, zPo_n, zPo_t, zKl_i, zKl_r, zKl_n, zKl_l, gK_sI, gK_sJ, gK_sR, gK_sIA, gK_sJA, gR_sI, gR_sJ, gJ_sI, gI_sJ, gI_sR, gJ_sR, gR_sIA, gJ_sIA, Nat.reduceLeDiff, Nat.reduceEqDiff, and_self, and_true, true_and, and_false, false_and, eX6_stows_0, eX6_stows_1, eX6_stows_2, eX6_stows_3, eX6_stows_6, eX6_stows_7, eX6_stows_8, eX6_stows_11, eX6_stows_12, eX6_stows_13, eX6_stows_15, eX6_stows_17, eX6_stows_20, eX6_stows_21, eX6_stows_22, eX6_stows_26, eX6_stows_29, eX6_stows_30, eX6_stows_33, eX6_stows_34, eX6_stows_35, eX6_stows_38, eX6_stows_39, eX6_stows_40, eX6_stows_43, eX6_stows_44, eX6_stows_47, eX6_stows_48, eX6_stows_51, eX6_stows_52, eX6_stows_53, eX6_stows_54, eX6_stows_55, eX6_stows_56, eX6_stows_57, eX6_stows_60, eX6_stows_61, eX6_stows_64, eX6_stows_65, eX6_stows_66, eX6_stows_67, eX6_stows_68, eX6_stows_71, eX6_stows_72, eX6_stows_73, eX6_stows_76, eX6_stows_79, eX6_stows_82, eX6_stows_85, eX6_stows_86, eX6_stows_in]
    exact hq
theorem kX0_turning {s : Int} (K : zXk h) (v : zIv a) (P : zPw h 75 a nm) (h0 : 0 ≤ s) (h1 : s < a 3) (hQ : ∀ h', zPw h' 75 a nm → zSx h h' → gI h' 65 7 = gI h 65 7 → (fStow a s ≠ -1 → gI h' 65 14 = fStow a s % 8) → Q (zRv (zi (if fStow a s = -1 then -1 else fStow a s / 8)) h')) : zCm mX0_turning d [zr (some 65), zi s] h Q := by
  have h4 := (zIships v).2
  have b1 := (zIgd v).2.1
  have W := P.2.1
  simp (disch := (first | (simp only [gK_sI, gK_sJ, gK_sR, gK_sIA, gK_sJA, gR_sI, gR_sJ, gR_sIA, Nat.reduceLeDiff, Nat.reduceEqDiff, Nat.reduceLT, Int.reduceLE, Int.reduceLT, Int.reduceEq, zWt_i, zWt_l, zWt_r, zWt_n, K, zXkk K, zXh0 K, W, zWkk W] <;> omega) | omega | fail)) only [if_pos, if_neg, wI_id, zLc_lt, zLc_gt, zLc_eq, zLc_le, zLc_ge, Int.reduceEq, Int.reduceLE, Int.reduceLT, Int.reduceNeg, Int.reduceAdd, Int.reduceMul, Int.reduceSub, not_true_eq_false, not_false_eq_true, reduceIte, zPo_v, zPo_n, zPo_t, zKl_i, zKl_r, zKl_n, zKl_l, gK_sI, gK_sJ, gK_sR, gK_sIA, gK_sJA, gR_sI, gR_sJ, gJ_sI, gI_sJ, gI_sR, gJ_sR, gR_sIA, gJ_sIA, Nat.reduceLeDiff, Nat.reduceEqDiff, and_self, and_true, true_and, and_false, false_and, eX0_turning_0, eX0_turning_1, eX0_turning_4, eX0_turning_5, eX0_turning_8, eX0_turning_9, eX0_turning_10, eX0_turning_12, eX0_turning_14, eX0_turning_17, eX0_turning_18, eX0_turning_22, eX0_turning_23, eX0_turning_26, eX0_turning_29, eX0_turning_32, eX0_turning_33, eX0_turning_34, eX0_turning_36, eX0_turning_37, eX0_turning_40, eX0_turning_41, eX0_turning_44, eX0_turning_47, eX0_turning_48, eX0_turning_50, eX0_turning_53, eX0_turning_54, eX0_turning_55, eX0_turning_58, eX0_turning_61, eX0_turning_64, eX0_turning_67, eX0_turning_68, tX0_turning, eX0_turning_in, K, zXkk K, zXh0 K, kX0_at]
  refine kX_captains2 v P h0 (by omega) (fun h1' P1 S1 => ?_)
  rw [← fCapN_0 v h0 h1]
  simp (disch := (first | (simp only [gK_sI, gK_sJ, gK_sR, gK_sIA, gK_sJA, gR_sI, gR_sJ, gR_sIA, Nat.reduceLeDiff, Nat.reduceEqDiff, Nat.reduceLT, Int.reduceLE, Int.reduceLT, Int.reduceEq, zWt_i, zWt_l, zWt_r, zWt_n] <;> omega) | omega | fail)) only [if_pos, if_neg, wI_id, zLc_lt, zLc_gt, zLc_eq, zLc_le, zLc_ge, Int.reduceEq, Int.reduceLE, Int.reduceLT, Int.reduceNeg, Int.reduceAdd, Int.reduceMul, Int.reduceSub, not_true_eq_false, not_false_eq_true, reduceIte, zPo_v, zPo_n, zPo_t, zKl_i, zKl_r, zKl_n, zKl_l, gK_sI, gK_sJ, gK_sR, gK_sIA, gK_sJA, gR_sI, gR_sJ, gJ_sI, gI_sJ, gI_sR, gJ_sR, gR_sIA, gJ_sIA, Nat.reduceLeDiff, Nat.reduceEqDiff, and_self, and_true, true_and, and_false, false_and, eX0_turning_0, eX0_turning_1, eX0_turning_4, eX0_turning_5, eX0_turning_8, eX0_turning_9, eX0_turning_10, eX0_turning_12, eX0_turning_14, eX0_turning_17, eX0_turning_18, eX0_turning_22, eX0_turning_23, eX0_turning_26, eX0_turning_29, eX0_turning_32, eX0_turning_33, eX0_turning_34, eX0_turning_36, eX0_turning_37, eX0_turning_40, eX0_turning_41, eX0_turning_44, eX0_turning_47, eX0_turning_48, eX0_turning_50, eX0_turning_53, eX0_turning_54, eX0_turning_55, eX0_turning_58, eX0_turning_61, eX0_turning_64, eX0_turning_67, eX0_turning_68, tX0_turning, eX0_turning_in]
  refine zLoop 61 (fun n ls h' => 1 ≤ n ∧ (∀ j, 8 ≤ j → j < 8 * n → tStow a s j = false) ∧ zPw h' 75 a nm ∧ zSx h h' ∧ gI h' 65 7 = gI h 65 7 ∧ ∃ o, ls = [some (zr (some 65)), some (zi s), some (zi (fCapN a s 0)), some (zi n), o]) ?_ ?_ 1 _ _ (by omega) ⟨by omega, fun j j0 j1 => by omega, P1, zSx_w S1, by rw [S1.2.2.2.2 65 (by omega)], none, rfl⟩
  · rintro n _ h2 hn ⟨hn0, hj, P2, S2, E2, o, rfl⟩ k
    have K2 : zXk h2 := zXk_sx S2 K
    rw [eX0_turning_11]
    simp (disch := (first | (simp only [gK_sI, gK_sJ, gK_sR, gK_sIA, gK_sJA, gR_sI, gR_sJ, gR_sIA, Nat.reduceLeDiff, Nat.reduceEqDiff, Nat.reduceLT, Int.reduceLE, Int.reduceLT, Int.reduceEq, zWt_i, zWt_l, zWt_r, zWt_n] <;> omega) | omega | fail)) only [if_pos, if_neg, wI_id, zLc_lt, zLc_gt, zLc_eq, zLc_le, zLc_ge, Int.reduceEq, Int.reduceLE, Int.reduceLT, Int.reduceNeg, Int.reduceAdd, Int.reduceMul, Int.reduceSub, not_true_eq_false, not_false_eq_true, reduceIte, zPo_v, zPo_n, zPo_t, zKl_i, zKl_r, zKl_n, zKl_l, gK_sI, gK_sJ, gK_sR, gK_sIA, gK_sJA, gR_sI, gR_sJ, gJ_sI, gI_sJ, gI_sR, gJ_sR, gR_sIA, gJ_sIA, Nat.reduceLeDiff, Nat.reduceEqDiff, and_self, and_true, true_and, and_false, false_and, eX0_turning_0, eX0_turning_1, eX0_turning_4, eX0_turning_5, eX0_turning_8, eX0_turning_9, eX0_turning_10, eX0_turning_12, eX0_turning_14, eX0_turning_17, eX0_turning_18, eX0_turning_22, eX0_turning_23, eX0_turning_26, eX0_turning_29, eX0_turning_32, eX0_turning_33, eX0_turning_34, eX0_turning_36, eX0_turning_37, eX0_turning_40, eX0_turning_41, eX0_turning_44, eX0_turning_47, eX0_turning_48, eX0_turning_50, eX0_turning_53, eX0_turning_54, eX0_turning_55, eX0_turning_58, eX0_turning_61, eX0_turning_64, eX0_turning_67, eX0_turning_68, tX0_turning, eX0_turning_in]
    refine zLoop (a 1) (fun i ls h' => 0 ≤ i ∧ (∀ j, 8 ≤ j → j < 8 * n + i → tStow a s j = false) ∧ zPw h' 75 a nm ∧ zSx h h' ∧ gI h' 65 7 = gI h 65 7 ∧ ls = [some (zr (some 65)), some (zi s), some (zi (fCapN a s 0)), some (zi n), some (zi i)]) ?_ ?_ 0 _ _ b1.1 ⟨by omega, fun j j0 j1 => hj j j0 (by omega), P2, S2, E2, rfl⟩
    · rintro i _ h3 hi ⟨hi0, hj2, P3, S3, E3, rfl⟩ k2
      have K3 : zXk h3 := zXk_sx S3 K
      have W3 := P3.2.1
      have q1 := P3.2.2.1.2.1
      have d1 : (8 * n + i) % 8 = i := by omega
      have d2 : (8 * n + i) / 8 = n := by omega
      rw [eX0_turning_20]
      simp (disch := (first | (simp only [gK_sI, gK_sJ, gK_sR, gK_sIA, gK_sJA, gR_sI, gR_sJ, gR_sIA, Nat.reduceLeDiff, Nat.reduceEqDiff, Nat.reduceLT, Int.reduceLE, Int.reduceLT, Int.reduceEq, zWt_i, zWt_l, zWt_r, zWt_n, K3, zXkk K3, zXh0 K3, W3, zWkk W3] <;> omega) | omega | fail)) only [if_pos, if_neg, wI_id, zLc_lt, zLc_gt, zLc_eq, zLc_le, zLc_ge, Int.reduceEq, Int.reduceLE, Int.reduceLT, Int.reduceNeg, Int.reduceAdd, Int.reduceMul, Int.reduceSub, not_true_eq_false, not_false_eq_true, reduceIte, zPo_v, zPo_n, zPo_t, zKl_i, zKl_r, zKl_n, zKl_l, gK_sI, gK_sJ, gK_sR, gK_sIA, gK_sJA, gR_sI, gR_sJ, gJ_sI, gI_sJ, gI_sR, gJ_sR, gR_sIA, gJ_sIA, Nat.reduceLeDiff, Nat.reduceEqDiff, and_self, and_true, true_and, and_false, false_and, eX0_turning_0, eX0_turning_1, eX0_turning_4, eX0_turning_5, eX0_turning_8, eX0_turning_9, eX0_turning_10, eX0_turning_12, eX0_turning_14, eX0_turning_17, eX0_turning_18, eX0_turning_22, eX0_turning_23, eX0_turning_26, eX0_turning_29, eX0_turning_32, eX0_turning_33, eX0_turning_34, eX0_turning_36, eX0_turning_37, eX0_turning_40, eX0_turning_41, eX0_turning_44, eX0_turning_47, eX0_turning_48, eX0_turning_50, eX0_turning_53, eX0_turning_54, eX0_turning_55, eX0_turning_58, eX0_turning_61, eX0_turning_64, eX0_turning_67, eX0_turning_68, tX0_turning, eX0_turning_in, K3, zXkk K3, zXh0 K3, kX0_at, q1]
      refine kX0_captainsWith K3 v P3 h0 h1 hi0 (by omega) (by omega) (by omega) (fun h4' P4 S4 => ?_)
      have K4 : zXk h4' := zXk_w S4 K3
      have E4 : gI h4' 65 7 = gI h 65 7 := by rw [S4.2.2.2.2 65 (by omega)]; exact E3
      have S5 := zSx_tr S3 (zSx_w S4)
      by_cases c : fCapW a s i n = fCapN a s 0
      · simp (disch := (first | (simp only [gK_sI, gK_sJ, gK_sR, gK_sIA, gK_sJA, gR_sI, gR_sJ, gR_sIA, Nat.reduceLeDiff, Nat.reduceEqDiff, Nat.reduceLT, Int.reduceLE, Int.reduceLT, Int.reduceEq, zWt_i, zWt_l, zWt_r, zWt_n, K4, zXkk K4, zXh0 K4] <;> omega) | omega | fail)) only [if_pos, if_neg, wI_id, zLc_lt, zLc_gt, zLc_eq, zLc_le, zLc_ge, Int.reduceEq, Int.reduceLE, Int.reduceLT, Int.reduceNeg, Int.reduceAdd, Int.reduceMul, Int.reduceSub, not_true_eq_false, not_false_eq_true, reduceIte, zPo_v, zPo_n, zPo_t, zKl_i, zKl_r, zKl_n, zKl_l, gK_sI, gK_sJ, gK_sR, gK_sIA, gK_sJA, gR_sI, gR_sJ, gJ_sI, gI_sJ, gI_sR, gJ_sR, gR_sIA, gJ_sIA, Nat.reduceLeDiff, Nat.reduceEqDiff, and_self, and_true, true_and, and_false, false_and, eX0_turning_0, eX0_turning_1, eX0_turning_4, eX0_turning_5, eX0_turning_8, eX0_turning_9, eX0_turning_10, eX0_turning_12, eX0_turning_14, eX0_turning_17, eX0_turning_18, eX0_turning_22, eX0_turning_23, eX0_turning_26, eX0_turning_29, eX0_turning_32, eX0_turning_33, eX0_turning_34, eX0_turning_36, eX0_turning_37, eX0_turning_40, eX0_turning_41, eX0_turning_44, eX0_turning_47, eX0_turning_48, eX0_turning_50, eX0_turning_53, eX0_turning_54, eX0_turning_55, eX0_turning_58, eX0_turning_61, eX0_turning_64, eX0_turning_67, eX0_turning_68, tX0_turning, eX0_turning_in, c]
        refine k2 _ _ ⟨by omega, fun j j0 j1 => ?_, P4, S5, E4, rfl⟩
        by_cases ej : j = 8 * n + i
        · rw [ej]
          unfold tStow
          rw [d1, d2]
          exact decide_eq_false (fun h => h.2 c)
        · exact hj2 j j0 (by omega)
      · have et : fStow a s = 8 * n + i := zFst_at 480 8 _ (by omega) (by omega) hj2 (by
          unfold tStow
          rw [d1, d2]
          exact decide_eq_true ⟨hi, c⟩)
        simp (disch := (first | (simp only [gK_sI, gK_sJ, gK_sR, gK_sIA, gK_sJA, gR_sI, gR_sJ, gR_sIA, Nat.reduceLeDiff, Nat.reduceEqDiff, Nat.reduceLT, Int.reduceLE, Int.reduceLT, Int.reduceEq, zWt_i, zWt_l, zWt_r, zWt_n, K4, zXkk K4, zXh0 K4] <;> omega) | omega | fail)) only [if_pos, if_neg, wI_id, zLc_lt, zLc_gt, zLc_eq, zLc_le, zLc_ge, Int.reduceEq, Int.reduceLE, Int.reduceLT, Int.reduceNeg, Int.reduceAdd, Int.reduceMul, Int.reduceSub, not_true_eq_false, not_false_eq_true, reduceIte, zPo_v, zPo_n, zPo_t, zKl_i, zKl_r, zKl_n, zKl_l, gK_sI, gK_sJ, gK_sR, gK_sIA, gK_sJA, gR_sI, gR_sJ, gJ_sI, gI_sJ, gI_sR, gJ_sR, gR_sIA, gJ_sIA, Nat.reduceLeDiff, Nat.reduceEqDiff, and_self, and_true, true_and, and_false, false_and, eX0_turning_0, eX0_turning_1, eX0_turning_4, eX0_turning_5, eX0_turning_8, eX0_turning_9, eX0_turning_10, eX0_turning_12, eX0_turning_14, eX0_turning_17, eX0_turning_18, eX0_turning_22, eX0_turning_23, eX0_turning_26, eX0_turning_29, eX0_turning_32, eX0_turning_33, eX0_turning_34, eX0_turning_36, eX0_turning_37, eX0_turning_40, eX0_turning_41, eX0_turning_44, eX0_turning_47, eX0_turning_48, eX0_turning_50, eX0_turning_53, eX0_turning_54, eX0_turning_55, eX0_turning_58, eX0_turning_61, eX0_turning_64, eX0_turning_67, eX0_turning_68, tX0_turning, eX0_turning_in, c]
        have hq := hQ (sI h4' 65 14 i) (zPw_st v P4 K4) (zSx_g S5 (Or.inl rfl)) (by rw [gI_sI_eq, zU_ne (by decide)]; exact E4) (fun _ => by rw [gI_sI_eq, zU_eq, et, d1])
        rw [if_neg (by omega), et, d2] at hq
        exact hq
    · rintro _ h3 ⟨-, hj2, P3, S3, E3, rfl⟩
      have K3 : zXk h3 := zXk_sx S3 K
      have W3 := P3.2.1
      have q1 := P3.2.2.1.2.1
      rw [eX0_turning_20]
      simp (disch := (first | (simp only [gK_sI, gK_sJ, gK_sR, gK_sIA, gK_sJA, gR_sI, gR_sJ, gR_sIA, Nat.reduceLeDiff, Nat.reduceEqDiff, Nat.reduceLT, Int.reduceLE, Int.reduceLT, Int.reduceEq, zWt_i, zWt_l, zWt_r, zWt_n, K3, zXkk K3, zXh0 K3, W3, zWkk W3] <;> omega) | omega | fail)) only [if_pos, if_neg, wI_id, zLc_lt, zLc_gt, zLc_eq, zLc_le, zLc_ge, Int.reduceEq, Int.reduceLE, Int.reduceLT, Int.reduceNeg, Int.reduceAdd, Int.reduceMul, Int.reduceSub, not_true_eq_false, not_false_eq_true, reduceIte, zPo_v, zPo_n, zPo_t, zKl_i, zKl_r, zKl_n, zKl_l, gK_sI, gK_sJ, gK_sR, gK_sIA, gK_sJA, gR_sI, gR_sJ, gJ_sI, gI_sJ, gI_sR, gJ_sR, gR_sIA, gJ_sIA, Nat.reduceLeDiff, Nat.reduceEqDiff, and_self, and_true, true_and, and_false, false_and, eX0_turning_0, eX0_turning_1, eX0_turning_4, eX0_turning_5, eX0_turning_8, eX0_turning_9, eX0_turning_10, eX0_turning_12, eX0_turning_14, eX0_turning_17, eX0_turning_18, eX0_turning_22, eX0_turning_23, eX0_turning_26, eX0_turning_29, eX0_turning_32, eX0_turning_33, eX0_turning_34, eX0_turning_36, eX0_turning_37, eX0_turning_40, eX0_turning_41, eX0_turning_44, eX0_turning_47, eX0_turning_48, eX0_turning_50, eX0_turning_53, eX0_turning_54, eX0_turning_55, eX0_turning_58, eX0_turning_61, eX0_turning_64, eX0_turning_67, eX0_turning_68, tX0_turning, eX0_turning_in, K3, zXkk K3, zXh0 K3, kX0_at, q1]
      refine k _ _ ⟨by omega, fun j j0 j1 => ?_, P3, S3, E3, _, rfl⟩
      by_cases ej : j < 8 * n + a 1
      · exact hj2 j j0 ej
      · unfold tStow
        exact decide_eq_false (fun h => by omega)
  · rintro _ h2 ⟨-, hj, P2, S2, E2, o, rfl⟩
    have et : fStow a s = -1 := zFst_no 480 8 (fun j j0 j1 => hj j j0 (by omega))
    have hq := hQ h2 P2 S2 E2 (fun h => absurd et h)
    rw [if_pos et] at hq
    rw [eX0_turning_11]
    simp (disch := (first | (simp only [gK_sI, gK_sJ, gK_sR, gK_sIA, gK_sJA, gR_sI, gR_sJ, gR_sIA, Nat.reduceLeDiff, Nat.reduceEqDiff, Nat.reduceLT, Int.reduceLE, Int.reduceLT, Int.reduceEq, zWt_i, zWt_l, zWt_r, zWt_n] <;> omega) | omega | fail)) only [if_pos, if_neg, wI_id, zLc_lt, zLc_gt, zLc_eq, zLc_le, zLc_ge, Int.reduceEq, Int.reduceLE, Int.reduceLT, Int.reduceNeg, Int.reduceAdd, Int.reduceMul, Int.reduceSub, not_true_eq_false, not_false_eq_true, reduceIte, zPo_v, zPo_n, zPo_t, zKl_i, zKl_r, zKl_n, zKl_l, gK_sI, gK_sJ, gK_sR, gK_sIA, gK_sJA, gR_sI, gR_sJ, gJ_sI, gI_sJ, gI_sR, gJ_sR, gR_sIA, gJ_sIA, Nat.reduceLeDiff, Nat.reduceEqDiff, and_self, and_true, true_and, and_false, false_and, eX0_turning_0, eX0_turning_1, eX0_turning_4, eX0_turning_5, eX0_turning_8, eX0_turning_9, eX0_turning_10, eX0_turning_12, eX0_turning_14, eX0_turning_17, eX0_turning_18, eX0_turning_22, eX0_turning_23, eX0_turning_26, eX0_turning_29, eX0_turning_32, eX0_turning_33, eX0_turning_34, eX0_turning_36, eX0_turning_37, eX0_turning_40, eX0_turning_41, eX0_turning_44, eX0_turning_47, eX0_turning_48, eX0_turning_50, eX0_turning_53, eX0_turning_54, eX0_turning_55, eX0_turning_58, eX0_turning_61, eX0_turning_64, eX0_turning_67, eX0_turning_68, tX0_turning, eX0_turning_in]
    exact hq
theorem oM_stowaway {s : Int} (P : zMk h) (v : zIv a) (hQ : ∀ h1 g, zSm h h1 → gI h1 113 2 = (oStow a s).2 → Q (zRv (zi (oStow a s).1) (zH2 h1 a g))) : zCm mX6_stowaway d [zr (some 113), zi s] (zH2 h a f) Q := by
  have P2 : ∀ a f, zMk (zH2 h a f) := fun _ _ => P
  have P3 : ∀ a f x, zMk (zH2 (sI h 113 2 x) a f) := fun _ _ _ => P
  have b0 := (zIgd v).1
  have b1 := (zIgd v).2.1
  have b2 := zIports v
  have b3 := zIships v
  have b4 := zIrule v
  by_cases hc : 0 ≤ s ∧ s < a 3
  · have e : oStow a s = (if fStow a s = -1 then (-1, 6) else (fStow a s / 8, 0)) := if_pos hc
    simp (disch := (first | (simp only [gK_sI, gK_sJ, gK_sR, gK_sIA, gK_sJA, gR_sI, gR_sJ, gR_sIA, Nat.reduceLeDiff, Nat.reduceEqDiff, Nat.reduceLT, Int.reduceLE, Int.reduceLT, Int.reduceEq, zWt_i, zWt_l, zWt_r, zWt_n, zH2_gK, zH2_mk, P, zMkk P] <;> omega) | omega | fail)) only [if_pos, if_neg, wI_id, zLc_lt, zLc_gt, zLc_eq, zLc_le, zLc_ge, Int.reduceEq, Int.reduceLE, Int.reduceLT, Int.reduceNeg, Int.reduceAdd, Int.reduceMul, Int.reduceSub, not_true_eq_false, not_false_eq_true, reduceIte, zPo_v, zPo_n, zPo_t, zKl_i, zKl_r, zKl_n, zKl_l, gK_sI, gK_sJ, gK_sR, gK_sIA, gK_sJA, gR_sI, gR_sJ, gJ_sI, gI_sJ, gI_sR, gJ_sR, gR_sIA, gJ_sIA, Nat.reduceLeDiff, Nat.reduceEqDiff, and_self, and_true, true_and, and_false, false_and, eX6_stowaway_0, eX6_stowaway_1, eX6_stowaway_2, eX6_stowaway_5, eX6_stowaway_8, eX6_stowaway_9, eX6_stowaway_10, eX6_stowaway_11, eX6_stowaway_14, eX6_stowaway_17, eX6_stowaway_20, eX6_stowaway_21, eX6_stowaway_22, eX6_stowaway_25, eX6_stowaway_in, zH2_gK, zH2_gR, zH2_at, zH2_sI, zU_ne, P, zMkk P, cM_isShip (P2 _ _)]
    refine kM_stows P v hc.1 hc.2 (fun h1 g S1 G1 => ?_)
    have Q1 : zMk h1 := zMk_sm S1 P
    by_cases c : fStow a s = -1
    · rw [if_pos c] at e ⊢
      simp (disch := (first | (simp only [gK_sI, gK_sJ, gK_sR, gK_sIA, gK_sJA, gR_sI, gR_sJ, gR_sIA, Nat.reduceLeDiff, Nat.reduceEqDiff, Nat.reduceLT, Int.reduceLE, Int.reduceLT, Int.reduceEq, zWt_i, zWt_l, zWt_r, zWt_n, zH2_gK, zH2_mk, Q1, zMkk Q1] <;> omega) | omega | fail)) only [if_pos, if_neg, wI_id, zLc_lt, zLc_gt, zLc_eq, zLc_le, zLc_ge, Int.reduceEq, Int.reduceLE, Int.reduceLT, Int.reduceNeg, Int.reduceAdd, Int.reduceMul, Int.reduceSub, not_true_eq_false, not_false_eq_true, reduceIte, zPo_v, zPo_n, zPo_t, zKl_i, zKl_r, zKl_n, zKl_l, gK_sI, gK_sJ, gK_sR, gK_sIA, gK_sJA, gR_sI, gR_sJ, gJ_sI, gI_sJ, gI_sR, gJ_sR, gR_sIA, gJ_sIA, Nat.reduceLeDiff, Nat.reduceEqDiff, and_self, and_true, true_and, and_false, false_and, eX6_stowaway_0, eX6_stowaway_1, eX6_stowaway_2, eX6_stowaway_5, eX6_stowaway_8, eX6_stowaway_9, eX6_stowaway_10, eX6_stowaway_11, eX6_stowaway_14, eX6_stowaway_17, eX6_stowaway_20, eX6_stowaway_21, eX6_stowaway_22, eX6_stowaway_25, eX6_stowaway_in, zH2_gK, zH2_gR, zH2_at, zH2_sI, zU_ne, Q1, zMkk Q1, cM_orNone (zH2_mk.mpr Q1), cM_refuse (zH2_mk.mpr Q1), zH2_sIne]
      exact zHm hQ S1 e g
    · rw [if_neg c] at e ⊢
      have hge := fStow_b c
      have G1 := G1 c
      simp (disch := (first | (simp only [gK_sI, gK_sJ, gK_sR, gK_sIA, gK_sJA, gR_sI, gR_sJ, gR_sIA, Nat.reduceLeDiff, Nat.reduceEqDiff, Nat.reduceLT, Int.reduceLE, Int.reduceLT, Int.reduceEq, zWt_i, zWt_l, zWt_r, zWt_n, zH2_gK, zH2_mk, Q1, zMkk Q1] <;> omega) | omega | fail)) only [if_pos, if_neg, wI_id, zLc_lt, zLc_gt, zLc_eq, zLc_le, zLc_ge, Int.reduceEq, Int.reduceLE, Int.reduceLT, Int.reduceNeg, Int.reduceAdd, Int.reduceMul, Int.reduceSub, not_true_eq_false, not_false_eq_true, reduceIte, zPo_v, zPo_n, zPo_t, zKl_i, zKl_r, zKl_n, zKl_l, gK_sI, gK_sJ, gK_sR, gK_sIA, gK_sJA, gR_sI, gR_sJ, gJ_sI, gI_sJ, gI_sR, gJ_sR, gR_sIA, gJ_sIA, Nat.reduceLeDiff, Nat.reduceEqDiff, and_self, and_true, true_and, and_false, false_and, eX6_stowaway_0, eX6_stowaway_1, eX6_stowaway_2, eX6_stowaway_5, eX6_stowaway_8, eX6_stowaway_9, eX6_stowaway_10, eX6_stowaway_11, eX6_stowaway_14, eX6_stowaway_17, eX6_stowaway_20, eX6_stowaway_21, eX6_stowaway_22, eX6_stowaway_25, eX6_stowaway_in, zH2_gK, zH2_gR, zH2_at, zH2_sI, zU_ne, Q1, zMkk Q1, cM_orNone (zH2_mk.mpr Q1), cM_gives (zH2_mk.mpr Q1), zH2_sIne, zH2_ne, G1]
      exact zHm hQ S1 e g
  · have e : oStow a s = (-1, 1) := if_neg hc
    have h9 := zHm hQ zSm_rf e f
    simp (disch := (first | (simp only [gK_sI, gK_sJ, gK_sR, gK_sIA, gK_sJA, gR_sI, gR_sJ, gR_sIA, Nat.reduceLeDiff, Nat.reduceEqDiff, Nat.reduceLT, Int.reduceLE, Int.reduceLT, Int.reduceEq, zWt_i, zWt_l, zWt_r, zWt_n, zH2_gK, zH2_mk, P, zMkk P] <;> omega) | omega | fail)) only [wI_id, zLc_lt, zLc_gt, zLc_eq, zLc_le, zLc_ge, Int.reduceEq, Int.reduceLE, Int.reduceLT, Int.reduceNeg, Int.reduceAdd, Int.reduceMul, Int.reduceSub, not_true_eq_false, not_false_eq_true, reduceIte, zPo_v, zPo_n, zPo_t, zKl_i, zKl_r, zKl_n, zKl_l, gK_sI, gK_sJ, gK_sR, gK_sIA, gK_sJA, gR_sI, gR_sJ, gJ_sI, gI_sJ, gI_sR, gJ_sR, gR_sIA, gJ_sIA, Nat.reduceLeDiff, Nat.reduceEqDiff, and_self, and_true, true_and, and_false, false_and, eX6_stowaway_0, eX6_stowaway_1, eX6_stowaway_2, eX6_stowaway_5, eX6_stowaway_8, eX6_stowaway_9, eX6_stowaway_10, eX6_stowaway_11, eX6_stowaway_14, eX6_stowaway_17, eX6_stowaway_20, eX6_stowaway_21, eX6_stowaway_22, eX6_stowaway_25, eX6_stowaway_in, zH2_gK, zH2_gR, zH2_at, zH2_sI, zU_ne, P, zMkk P, cM_isShip (P2 _ _), cM_refuse (P2 _ _), zH2_sIne]
    (repeat' split) <;> first | exact h9 | (exfalso; omega)
theorem oX_stowaway {s : Int} (K : zXk h) (v : zIv a) (P : zPw h 75 a nm) (hQ : ∀ h', zPw h' 75 a nm → zSx h h' → gI h' 65 7 = (oStow a s).2 → Q (zRv (zi (oStow a s).1) h')) : zCm mX0_stowaway d [zr (some 65), zi s] h Q := by
  have W := P.2.1
  have e2 : ∀ x, zXk (sI h 65 7 x) := fun _ => K
  have P9 : ∀ x, zPw (sI h 65 7 x) 75 a nm := fun x => zPw_st v P K
  have S9 : ∀ x, zSx h (sI h 65 7 x) := fun x => zSx_st zSx_rf
  have b0 := (zIgd v).1
  have b1 := (zIgd v).2.1
  have b2 := zIports v
  have b3 := zIships v
  have b4 := zIrule v
  by_cases hc : 0 ≤ s ∧ s < a 3
  · have e : oStow a s = (if fStow a s = -1 then (-1, 6) else (fStow a s / 8, 0)) := if_pos hc
    simp (disch := (first | (simp only [gK_sI, gK_sJ, gK_sR, gK_sIA, gK_sJA, gR_sI, gR_sJ, gR_sIA, Nat.reduceLeDiff, Nat.reduceEqDiff, Nat.reduceLT, Int.reduceLE, Int.reduceLT, Int.reduceEq, zWt_i, zWt_l, zWt_r, zWt_n, K, zXkk K, zXh0 K, W, zWkk W, e2] <;> omega) | omega | fail)) only [if_pos, if_neg, wI_id, zLc_lt, zLc_gt, zLc_eq, zLc_le, zLc_ge, Int.reduceEq, Int.reduceLE, Int.reduceLT, Int.reduceNeg, Int.reduceAdd, Int.reduceMul, Int.reduceSub, not_true_eq_false, not_false_eq_true, reduceIte, zPo_v, zPo_n, zPo_t, zKl_i, zKl_r, zKl_n, zKl_l, gK_sI, gK_sJ, gK_sR, gK_sIA, gK_sJA, gR_sI, gR_sJ, gJ_sI, gI_sJ, gI_sR, gJ_sR, gR_sIA, gJ_sIA, Nat.reduceLeDiff, Nat.reduceEqDiff, and_self, and_true, true_and, and_false, false_and, eX0_stowaway_0, eX0_stowaway_1, eX0_stowaway_2, eX0_stowaway_3, eX0_stowaway_6, eX0_stowaway_9, eX0_stowaway_10, eX0_stowaway_13, eX0_stowaway_14, eX0_stowaway_17, eX0_stowaway_18, eX0_stowaway_21, eX0_stowaway_24, eX0_stowaway_25, eX0_stowaway_28, eX0_stowaway_29, eX0_stowaway_30, eX0_stowaway_31, eX0_stowaway_34, eX0_stowaway_37, tX0_stowaway, eX0_stowaway_in, K, zXkk K, zXh0 K, W, zWkk W, kX0_isShip K v P, gI_sI_ne, gI_sI_eq, zU_eq]
    refine kX0_turning (e2 0) v (P9 0) hc.1 hc.2 (fun h1 P1 S1 E1 G1 => ?_)
    have K1 : zXk h1 := zXk_sx S1 (e2 0)
    have S3 := zSx_tr (S9 0) S1
    by_cases c : fStow a s = -1
    · rw [if_pos c] at e ⊢
      simp (disch := (first | (simp only [gK_sI, gK_sJ, gK_sR, gK_sIA, gK_sJA, gR_sI, gR_sJ, gR_sIA, Nat.reduceLeDiff, Nat.reduceEqDiff, Nat.reduceLT, Int.reduceLE, Int.reduceLT, Int.reduceEq, zWt_i, zWt_l, zWt_r, zWt_n, K1, zXkk K1, zXh0 K1] <;> omega) | omega | fail)) only [if_pos, if_neg, wI_id, zLc_lt, zLc_gt, zLc_eq, zLc_le, zLc_ge, Int.reduceEq, Int.reduceLE, Int.reduceLT, Int.reduceNeg, Int.reduceAdd, Int.reduceMul, Int.reduceSub, not_true_eq_false, not_false_eq_true, reduceIte, zPo_v, zPo_n, zPo_t, zKl_i, zKl_r, zKl_n, zKl_l, gK_sI, gK_sJ, gK_sR, gK_sIA, gK_sJA, gR_sI, gR_sJ, gJ_sI, gI_sJ, gI_sR, gJ_sR, gR_sIA, gJ_sIA, Nat.reduceLeDiff, Nat.reduceEqDiff, and_self, and_true, true_and, and_false, false_and, eX0_stowaway_0, eX0_stowaway_1, eX0_stowaway_2, eX0_stowaway_3, eX0_stowaway_6, eX0_stowaway_9, eX0_stowaway_10, eX0_stowaway_13, eX0_stowaway_14, eX0_stowaway_17, eX0_stowaway_18, eX0_stowaway_21, eX0_stowaway_24, eX0_stowaway_25, eX0_stowaway_28, eX0_stowaway_29, eX0_stowaway_30, eX0_stowaway_31, eX0_stowaway_34, eX0_stowaway_37, tX0_stowaway, eX0_stowaway_in, K1, zXkk K1, zXh0 K1, kX0_answer K1]
      exact zFxs hQ v K1 P1 S3 e
    · rw [if_neg c] at e ⊢
      have hge := fStow_b c
      have G1 := G1 c
      simp (disch := (first | (simp only [gK_sI, gK_sJ, gK_sR, gK_sIA, gK_sJA, gR_sI, gR_sJ, gR_sIA, Nat.reduceLeDiff, Nat.reduceEqDiff, Nat.reduceLT, Int.reduceLE, Int.reduceLT, Int.reduceEq, zWt_i, zWt_l, zWt_r, zWt_n, K1, zXkk K1, zXh0 K1] <;> omega) | omega | fail)) only [if_pos, if_neg, wI_id, zLc_lt, zLc_gt, zLc_eq, zLc_le, zLc_ge, Int.reduceEq, Int.reduceLE, Int.reduceLT, Int.reduceNeg, Int.reduceAdd, Int.reduceMul, Int.reduceSub, not_true_eq_false, not_false_eq_true, reduceIte, zPo_v, zPo_n, zPo_t, zKl_i, zKl_r, zKl_n, zKl_l, gK_sI, gK_sJ, gK_sR, gK_sIA, gK_sJA, gR_sI, gR_sJ, gJ_sI, gI_sJ, gI_sR, gJ_sR, gR_sIA, gJ_sIA, Nat.reduceLeDiff, Nat.reduceEqDiff, and_self, and_true, true_and, and_false, false_and, eX0_stowaway_0, eX0_stowaway_1, eX0_stowaway_2, eX0_stowaway_3, eX0_stowaway_6, eX0_stowaway_9, eX0_stowaway_10, eX0_stowaway_13, eX0_stowaway_14, eX0_stowaway_17, eX0_stowaway_18, eX0_stowaway_21, eX0_stowaway_24, eX0_stowaway_25, eX0_stowaway_28, eX0_stowaway_29, eX0_stowaway_30, eX0_stowaway_31, eX0_stowaway_34, eX0_stowaway_37, tX0_stowaway, eX0_stowaway_in, K1, zXkk K1, zXh0 K1, kX0_answer K1, G1]
      exact zFxs hQ v K1 P1 S3 e
  · have e : oStow a s = (-1, 1) := if_neg hc
    have h9 := zFxs hQ v K P zSx_rf e
    simp (disch := (first | (simp only [gK_sI, gK_sJ, gK_sR, gK_sIA, gK_sJA, gR_sI, gR_sJ, gR_sIA, Nat.reduceLeDiff, Nat.reduceEqDiff, Nat.reduceLT, Int.reduceLE, Int.reduceLT, Int.reduceEq, zWt_i, zWt_l, zWt_r, zWt_n, K, zXkk K, zXh0 K, W, zWkk W, e2] <;> omega) | omega | fail)) only [wI_id, zLc_lt, zLc_gt, zLc_eq, zLc_le, zLc_ge, Int.reduceEq, Int.reduceLE, Int.reduceLT, Int.reduceNeg, Int.reduceAdd, Int.reduceMul, Int.reduceSub, not_true_eq_false, not_false_eq_true, reduceIte, zPo_v, zPo_n, zPo_t, zKl_i, zKl_r, zKl_n, zKl_l, gK_sI, gK_sJ, gK_sR, gK_sIA, gK_sJA, gR_sI, gR_sJ, gJ_sI, gI_sJ, gI_sR, gJ_sR, gR_sIA, gJ_sIA, Nat.reduceLeDiff, Nat.reduceEqDiff, and_self, and_true, true_and, and_false, false_and, eX0_stowaway_0, eX0_stowaway_1, eX0_stowaway_2, eX0_stowaway_3, eX0_stowaway_6, eX0_stowaway_9, eX0_stowaway_10, eX0_stowaway_13, eX0_stowaway_14, eX0_stowaway_17, eX0_stowaway_18, eX0_stowaway_21, eX0_stowaway_24, eX0_stowaway_25, eX0_stowaway_28, eX0_stowaway_29, eX0_stowaway_30, eX0_stowaway_31, eX0_stowaway_34, eX0_stowaway_37, tX0_stowaway, eX0_stowaway_in, K, zXkk K, zXh0 K, W, zWkk W, kX0_isShip K v P, gI_sI_ne, gI_sI_eq, zU_eq]
    (repeat' split) <;> first | exact h9 | (exfalso; omega)
theorem oM_stowawayGood {s : Int} (P : zMk h) (v : zIv a) (hQ : ∀ h1 g, zSm h h1 → gI h1 113 2 = (oStowG a s).2 → Q (zRv (zi (oStowG a s).1) (zH2 h1 a g))) : zCm mX6_stowawayGood d [zr (some 113), zi s] (zH2 h a f) Q := by
  have P2 : ∀ a f, zMk (zH2 h a f) := fun _ _ => P
  have P3 : ∀ a f x, zMk (zH2 (sI h 113 2 x) a f) := fun _ _ _ => P
  have b0 := (zIgd v).1
  have b1 := (zIgd v).2.1
  have b2 := zIports v
  have b3 := zIships v
  have b4 := zIrule v
  by_cases hc : 0 ≤ s ∧ s < a 3
  · have e : oStowG a s = (if fStow a s = -1 then (-1, 6) else (fStow a s % 8, 0)) := if_pos hc
    simp (disch := (first | (simp only [gK_sI, gK_sJ, gK_sR, gK_sIA, gK_sJA, gR_sI, gR_sJ, gR_sIA, Nat.reduceLeDiff, Nat.reduceEqDiff, Nat.reduceLT, Int.reduceLE, Int.reduceLT, Int.reduceEq, zWt_i, zWt_l, zWt_r, zWt_n, zH2_gK, zH2_mk, P, zMkk P] <;> omega) | omega | fail)) only [if_pos, if_neg, wI_id, zLc_lt, zLc_gt, zLc_eq, zLc_le, zLc_ge, Int.reduceEq, Int.reduceLE, Int.reduceLT, Int.reduceNeg, Int.reduceAdd, Int.reduceMul, Int.reduceSub, not_true_eq_false, not_false_eq_true, reduceIte, zPo_v, zPo_n, zPo_t, zKl_i, zKl_r, zKl_n, zKl_l, gK_sI, gK_sJ, gK_sR, gK_sIA, gK_sJA, gR_sI, gR_sJ, gJ_sI, gI_sJ, gI_sR, gJ_sR, gR_sIA, gJ_sIA, Nat.reduceLeDiff, Nat.reduceEqDiff, and_self, and_true, true_and, and_false, false_and, eX6_stowawayGood_0, eX6_stowawayGood_1, eX6_stowawayGood_2, eX6_stowawayGood_5, eX6_stowawayGood_8, eX6_stowawayGood_9, eX6_stowawayGood_10, eX6_stowawayGood_13, eX6_stowawayGood_16, eX6_stowawayGood_17, eX6_stowawayGood_18, eX6_stowawayGood_21, eX6_stowawayGood_22, eX6_stowawayGood_25, eX6_stowawayGood_26, eX6_stowawayGood_28, eX6_stowawayGood_31, eX6_stowawayGood_34, eX6_stowawayGood_35, eX6_stowawayGood_36, eX6_stowawayGood_39, eX6_stowawayGood_42, eX6_stowawayGood_in, zH2_gK, zH2_gR, zH2_at, zH2_sI, zU_ne, P, zMkk P, cM_isShip (P2 _ _)]
    refine kM_stows P v hc.1 hc.2 (fun h1 g S1 G1 => ?_)
    have Q1 : zMk h1 := zMk_sm S1 P
    by_cases c : fStow a s = -1
    · rw [if_pos c] at e ⊢
      simp (disch := (first | (simp only [gK_sI, gK_sJ, gK_sR, gK_sIA, gK_sJA, gR_sI, gR_sJ, gR_sIA, Nat.reduceLeDiff, Nat.reduceEqDiff, Nat.reduceLT, Int.reduceLE, Int.reduceLT, Int.reduceEq, zWt_i, zWt_l, zWt_r, zWt_n, zH2_gK, zH2_mk, Q1, zMkk Q1] <;> omega) | omega | fail)) only [if_pos, if_neg, wI_id, zLc_lt, zLc_gt, zLc_eq, zLc_le, zLc_ge, Int.reduceEq, Int.reduceLE, Int.reduceLT, Int.reduceNeg, Int.reduceAdd, Int.reduceMul, Int.reduceSub, not_true_eq_false, not_false_eq_true, reduceIte, zPo_v, zPo_n, zPo_t, zKl_i, zKl_r, zKl_n, zKl_l, gK_sI, gK_sJ, gK_sR, gK_sIA, gK_sJA, gR_sI, gR_sJ, gJ_sI, gI_sJ, gI_sR, gJ_sR, gR_sIA, gJ_sIA, Nat.reduceLeDiff, Nat.reduceEqDiff, and_self, and_true, true_and, and_false, false_and, eX6_stowawayGood_0, eX6_stowawayGood_1, eX6_stowawayGood_2, eX6_stowawayGood_5, eX6_stowawayGood_8, eX6_stowawayGood_9, eX6_stowawayGood_10, eX6_stowawayGood_13, eX6_stowawayGood_16, eX6_stowawayGood_17, eX6_stowawayGood_18, eX6_stowawayGood_21, eX6_stowawayGood_22, eX6_stowawayGood_25, eX6_stowawayGood_26, eX6_stowawayGood_28, eX6_stowawayGood_31, eX6_stowawayGood_34, eX6_stowawayGood_35, eX6_stowawayGood_36, eX6_stowawayGood_39, eX6_stowawayGood_42, eX6_stowawayGood_in, zH2_gK, zH2_gR, zH2_at, zH2_sI, zU_ne, Q1, zMkk Q1, cM_orNone (zH2_mk.mpr Q1), cM_refuse (zH2_mk.mpr Q1), zH2_sIne]
      exact zHm hQ S1 e g
    · rw [if_neg c] at e ⊢
      have hge := fStow_b c
      have G1 := G1 c
      simp (disch := (first | (simp only [gK_sI, gK_sJ, gK_sR, gK_sIA, gK_sJA, gR_sI, gR_sJ, gR_sIA, Nat.reduceLeDiff, Nat.reduceEqDiff, Nat.reduceLT, Int.reduceLE, Int.reduceLT, Int.reduceEq, zWt_i, zWt_l, zWt_r, zWt_n, zH2_gK, zH2_mk, Q1, zMkk Q1] <;> omega) | omega | fail)) only [if_pos, if_neg, wI_id, zLc_lt, zLc_gt, zLc_eq, zLc_le, zLc_ge, Int.reduceEq, Int.reduceLE, Int.reduceLT, Int.reduceNeg, Int.reduceAdd, Int.reduceMul, Int.reduceSub, not_true_eq_false, not_false_eq_true, reduceIte, zPo_v, zPo_n, zPo_t, zKl_i, zKl_r, zKl_n, zKl_l, gK_sI, gK_sJ, gK_sR, gK_sIA, gK_sJA, gR_sI, gR_sJ, gJ_sI, gI_sJ, gI_sR, gJ_sR, gR_sIA, gJ_sIA, Nat.reduceLeDiff, Nat.reduceEqDiff, and_self, and_true, true_and, and_false, false_and, eX6_stowawayGood_0, eX6_stowawayGood_1, eX6_stowawayGood_2, eX6_stowawayGood_5, eX6_stowawayGood_8, eX6_stowawayGood_9, eX6_stowawayGood_10, eX6_stowawayGood_13, eX6_stowawayGood_16, eX6_stowawayGood_17, eX6_stowawayGood_18, eX6_stowawayGood_21, eX6_stowawayGood_22, eX6_stowawayGood_25, eX6_stowawayGood_26, eX6_stowawayGood_28, eX6_stowawayGood_31, eX6_stowawayGood_34, eX6_stowawayGood_35, eX6_stowawayGood_36, eX6_stowawayGood_39, eX6_stowawayGood_42, eX6_stowawayGood_in, zH2_gK, zH2_gR, zH2_at, zH2_sI, zU_ne, Q1, zMkk Q1, cM_orNone (zH2_mk.mpr Q1), cM_gives (zH2_mk.mpr Q1), zH2_sIne, zH2_ne, G1]
      exact zHm hQ S1 e g
  · have e : oStowG a s = (-1, 1) := if_neg hc
    have h9 := zHm hQ zSm_rf e f
    simp (disch := (first | (simp only [gK_sI, gK_sJ, gK_sR, gK_sIA, gK_sJA, gR_sI, gR_sJ, gR_sIA, Nat.reduceLeDiff, Nat.reduceEqDiff, Nat.reduceLT, Int.reduceLE, Int.reduceLT, Int.reduceEq, zWt_i, zWt_l, zWt_r, zWt_n, zH2_gK, zH2_mk, P, zMkk P] <;> omega) | omega | fail)) only [wI_id, zLc_lt, zLc_gt, zLc_eq, zLc_le, zLc_ge, Int.reduceEq, Int.reduceLE, Int.reduceLT, Int.reduceNeg, Int.reduceAdd, Int.reduceMul, Int.reduceSub, not_true_eq_false, not_false_eq_true, reduceIte, zPo_v, zPo_n, zPo_t, zKl_i, zKl_r, zKl_n, zKl_l, gK_sI, gK_sJ, gK_sR, gK_sIA, gK_sJA, gR_sI, gR_sJ, gJ_sI, gI_sJ, gI_sR, gJ_sR, gR_sIA, gJ_sIA, Nat.reduceLeDiff, Nat.reduceEqDiff, and_self, and_true, true_and, and_false, false_and, eX6_stowawayGood_0, eX6_stowawayGood_1, eX6_stowawayGood_2, eX6_stowawayGood_5, eX6_stowawayGood_8, eX6_stowawayGood_9, eX6_stowawayGood_10, eX6_stowawayGood_13, eX6_stowawayGood_16, eX6_stowawayGood_17, eX6_stowawayGood_18, eX6_stowawayGood_21, eX6_stowawayGood_22, eX6_stowawayGood_25, eX6_stowawayGood_26, eX6_stowawayGood_28, eX6_stowawayGood_31, eX6_stowawayGood_34, eX6_stowawayGood_35, eX6_stowawayGood_36, eX6_stowawayGood_39, eX6_stowawayGood_42, eX6_stowawayGood_in, zH2_gK, zH2_gR, zH2_at, zH2_sI, zU_ne, P, zMkk P, cM_isShip (P2 _ _), cM_refuse (P2 _ _), zH2_sIne]
    (repeat' split) <;> first | exact h9 | (exfalso; omega)
theorem oX_stowawayGood {s : Int} (K : zXk h) (v : zIv a) (P : zPw h 75 a nm) (hQ : ∀ h', zPw h' 75 a nm → zSx h h' → gI h' 65 7 = (oStowG a s).2 → Q (zRv (zi (oStowG a s).1) h')) : zCm mX0_stowawayGood d [zr (some 65), zi s] h Q := by
  have W := P.2.1
  have e2 : ∀ x, zXk (sI h 65 7 x) := fun _ => K
  have P9 : ∀ x, zPw (sI h 65 7 x) 75 a nm := fun x => zPw_st v P K
  have S9 : ∀ x, zSx h (sI h 65 7 x) := fun x => zSx_st zSx_rf
  have b0 := (zIgd v).1
  have b1 := (zIgd v).2.1
  have b2 := zIports v
  have b3 := zIships v
  have b4 := zIrule v
  by_cases hc : 0 ≤ s ∧ s < a 3
  · have e : oStowG a s = (if fStow a s = -1 then (-1, 6) else (fStow a s % 8, 0)) := if_pos hc
    simp (disch := (first | (simp only [gK_sI, gK_sJ, gK_sR, gK_sIA, gK_sJA, gR_sI, gR_sJ, gR_sIA, Nat.reduceLeDiff, Nat.reduceEqDiff, Nat.reduceLT, Int.reduceLE, Int.reduceLT, Int.reduceEq, zWt_i, zWt_l, zWt_r, zWt_n, K, zXkk K, zXh0 K, W, zWkk W, e2] <;> omega) | omega | fail)) only [if_pos, if_neg, wI_id, zLc_lt, zLc_gt, zLc_eq, zLc_le, zLc_ge, Int.reduceEq, Int.reduceLE, Int.reduceLT, Int.reduceNeg, Int.reduceAdd, Int.reduceMul, Int.reduceSub, not_true_eq_false, not_false_eq_true, reduceIte, zPo_v, zPo_n, zPo_t, zKl_i, zKl_r, zKl_n, zKl_l, gK_sI, gK_sJ, gK_sR, gK_sIA, gK_sJA, gR_sI, gR_sJ, gJ_sI, gI_sJ, gI_sR, gJ_sR, gR_sIA, gJ_sIA, Nat.reduceLeDiff, Nat.reduceEqDiff, and_self, and_true, true_and, and_false, false_and, eX0_stowawayGood_0, eX0_stowawayGood_1, eX0_stowawayGood_2, eX0_stowawayGood_3, eX0_stowawayGood_6, eX0_stowawayGood_9, eX0_stowawayGood_10, eX0_stowawayGood_13, eX0_stowawayGood_14, eX0_stowawayGood_17, eX0_stowawayGood_18, eX0_stowawayGood_21, eX0_stowawayGood_24, eX0_stowawayGood_25, eX0_stowawayGood_28, eX0_stowawayGood_29, eX0_stowawayGood_30, eX0_stowawayGood_31, eX0_stowawayGood_34, eX0_stowawayGood_37, eX0_stowawayGood_38, eX0_stowawayGood_41, eX0_stowawayGood_42, eX0_stowawayGood_45, eX0_stowawayGood_48, tX0_stowawayGood, eX0_stowawayGood_in, K, zXkk K, zXh0 K, W, zWkk W, kX0_isShip K v P, gI_sI_ne, gI_sI_eq, zU_eq]
    refine kX0_turning (e2 0) v (P9 0) hc.1 hc.2 (fun h1 P1 S1 E1 G1 => ?_)
    have K1 : zXk h1 := zXk_sx S1 (e2 0)
    have S3 := zSx_tr (S9 0) S1
    by_cases c : fStow a s = -1
    · rw [if_pos c] at e ⊢
      simp (disch := (first | (simp only [gK_sI, gK_sJ, gK_sR, gK_sIA, gK_sJA, gR_sI, gR_sJ, gR_sIA, Nat.reduceLeDiff, Nat.reduceEqDiff, Nat.reduceLT, Int.reduceLE, Int.reduceLT, Int.reduceEq, zWt_i, zWt_l, zWt_r, zWt_n, K1, zXkk K1, zXh0 K1] <;> omega) | omega | fail)) only [if_pos, if_neg, wI_id, zLc_lt, zLc_gt, zLc_eq, zLc_le, zLc_ge, Int.reduceEq, Int.reduceLE, Int.reduceLT, Int.reduceNeg, Int.reduceAdd, Int.reduceMul, Int.reduceSub, not_true_eq_false, not_false_eq_true, reduceIte, zPo_v, zPo_n, zPo_t, zKl_i, zKl_r, zKl_n, zKl_l, gK_sI, gK_sJ, gK_sR, gK_sIA, gK_sJA, gR_sI, gR_sJ, gJ_sI, gI_sJ, gI_sR, gJ_sR, gR_sIA, gJ_sIA, Nat.reduceLeDiff, Nat.reduceEqDiff, and_self, and_true, true_and, and_false, false_and, eX0_stowawayGood_0, eX0_stowawayGood_1, eX0_stowawayGood_2, eX0_stowawayGood_3, eX0_stowawayGood_6, eX0_stowawayGood_9, eX0_stowawayGood_10, eX0_stowawayGood_13, eX0_stowawayGood_14, eX0_stowawayGood_17, eX0_stowawayGood_18, eX0_stowawayGood_21, eX0_stowawayGood_24, eX0_stowawayGood_25, eX0_stowawayGood_28, eX0_stowawayGood_29, eX0_stowawayGood_30, eX0_stowawayGood_31, eX0_stowawayGood_34, eX0_stowawayGood_37, eX0_stowawayGood_38, eX0_stowawayGood_41, eX0_stowawayGood_42, eX0_stowawayGood_45, eX0_stowawayGood_48, tX0_stowawayGood, eX0_stowawayGood_in, K1, zXkk K1, zXh0 K1, kX0_answer K1]
      exact zFxs hQ v K1 P1 S3 e
    · rw [if_neg c] at e ⊢
      have hge := fStow_b c
      have G1 := G1 c
      simp (disch := (first | (simp only [gK_sI, gK_sJ, gK_sR, gK_sIA, gK_sJA, gR_sI, gR_sJ, gR_sIA, Nat.reduceLeDiff, Nat.reduceEqDiff, Nat.reduceLT, Int.reduceLE, Int.reduceLT, Int.reduceEq, zWt_i, zWt_l, zWt_r, zWt_n, K1, zXkk K1, zXh0 K1] <;> omega) | omega | fail)) only [if_pos, if_neg, wI_id, zLc_lt, zLc_gt, zLc_eq, zLc_le, zLc_ge, Int.reduceEq, Int.reduceLE, Int.reduceLT, Int.reduceNeg, Int.reduceAdd, Int.reduceMul, Int.reduceSub, not_true_eq_false, not_false_eq_true, reduceIte, zPo_v, zPo_n, zPo_t, zKl_i, zKl_r, zKl_n, zKl_l, gK_sI, gK_sJ, gK_sR, gK_sIA, gK_sJA, gR_sI, gR_sJ, gJ_sI, gI_sJ, gI_sR, gJ_sR, gR_sIA, gJ_sIA, Nat.reduceLeDiff, Nat.reduceEqDiff, and_self, and_true, true_and, and_false, false_and, eX0_stowawayGood_0, eX0_stowawayGood_1, eX0_stowawayGood_2, eX0_stowawayGood_3, eX0_stowawayGood_6, eX0_stowawayGood_9, eX0_stowawayGood_10, eX0_stowawayGood_13, eX0_stowawayGood_14, eX0_stowawayGood_17, eX0_stowawayGood_18, eX0_stowawayGood_21, eX0_stowawayGood_24, eX0_stowawayGood_25, eX0_stowawayGood_28, eX0_stowawayGood_29, eX0_stowawayGood_30, eX0_stowawayGood_31, eX0_stowawayGood_34, eX0_stowawayGood_37, eX0_stowawayGood_38, eX0_stowawayGood_41, eX0_stowawayGood_42, eX0_stowawayGood_45, eX0_stowawayGood_48, tX0_stowawayGood, eX0_stowawayGood_in, K1, zXkk K1, zXh0 K1, kX0_answer K1, G1]
      exact zFxs hQ v K1 P1 S3 e
  · have e : oStowG a s = (-1, 1) := if_neg hc
    have h9 := zFxs hQ v K P zSx_rf e
    simp (disch := (first | (simp only [gK_sI, gK_sJ, gK_sR, gK_sIA, gK_sJA, gR_sI, gR_sJ, gR_sIA, Nat.reduceLeDiff, Nat.reduceEqDiff, Nat.reduceLT, Int.reduceLE, Int.reduceLT, Int.reduceEq, zWt_i, zWt_l, zWt_r, zWt_n, K, zXkk K, zXh0 K, W, zWkk W, e2] <;> omega) | omega | fail)) only [wI_id, zLc_lt, zLc_gt, zLc_eq, zLc_le, zLc_ge, Int.reduceEq, Int.reduceLE, Int.reduceLT, Int.reduceNeg, Int.reduceAdd, Int.reduceMul, Int.reduceSub, not_true_eq_false, not_false_eq_true, reduceIte, zPo_v, zPo_n, zPo_t, zKl_i, zKl_r, zKl_n, zKl_l, gK_sI, gK_sJ, gK_sR, gK_sIA, gK_sJA, gR_sI, gR_sJ, gJ_sI, gI_sJ, gI_sR, gJ_sR, gR_sIA, gJ_sIA, Nat.reduceLeDiff, Nat.reduceEqDiff, and_self, and_true, true_and, and_false, false_and, eX0_stowawayGood_0, eX0_stowawayGood_1, eX0_stowawayGood_2, eX0_stowawayGood_3, eX0_stowawayGood_6, eX0_stowawayGood_9, eX0_stowawayGood_10, eX0_stowawayGood_13, eX0_stowawayGood_14, eX0_stowawayGood_17, eX0_stowawayGood_18, eX0_stowawayGood_21, eX0_stowawayGood_24, eX0_stowawayGood_25, eX0_stowawayGood_28, eX0_stowawayGood_29, eX0_stowawayGood_30, eX0_stowawayGood_31, eX0_stowawayGood_34, eX0_stowawayGood_37, eX0_stowawayGood_38, eX0_stowawayGood_41, eX0_stowawayGood_42, eX0_stowawayGood_45, eX0_stowawayGood_48, tX0_stowawayGood, eX0_stowawayGood_in, K, zXkk K, zXh0 K, W, zWkk W, kX0_isShip K v P, gI_sI_ne, gI_sI_eq, zU_eq]
    (repeat' split) <;> first | exact h9 | (exfalso; omega)
end O11
