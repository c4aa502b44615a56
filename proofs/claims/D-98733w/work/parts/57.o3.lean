/-! ===== OPERATIONS, 3: what is done ===== -/
set_option maxRecDepth 100000
theorem zGm {h : zHp} {Q : zRs → Prop} {b : Int → Int} {x st : Int} {o : (Int → Int) × Int × Int} (hQ : ∀ g, Q (zRv (zi o.2.1) (zH2 (sI h 113 2 o.2.2) o.1 g))) (e : o = (b, x, st)) (g : Int → Int) : Q (zRv (zi x) (zH2 (sI h 113 2 st) b g)) := by
  subst e
  exact hQ g
theorem zGx {h h1 : zHp} {Q : zRs → Prop} {b nm : Int → Int} {x st : Int} {o : (Int → Int) × Int × Int} (hQ : ∀ h', zPw h' 75 o.1 nm → zSx h h' → gI h' 65 7 = o.2.2 → Q (zRv (zi o.2.1) h')) (P : zPw h1 75 b nm) (S : zSx h h1) (hs : gI h1 65 7 = st) (e : o = (b, x, st)) : Q (zRv (zi x) h1) := by
  subst e
  exact hQ h1 P S hs
theorem zGxs {h h1 : zHp} {Q : zRs → Prop} {b nm : Int → Int} {x st : Int} {o : (Int → Int) × Int × Int} (hQ : ∀ h', zPw h' 75 o.1 nm → zSx h h' → gI h' 65 7 = o.2.2 → Q (zRv (zi o.2.1) h')) (K : zXk h1) (P : zPw h1 75 b nm) (S : zSx h h1) (e : o = (b, x, st)) : Q (zRv (zi x) (sI h1 65 7 st)) :=
  zGx hQ (zPw_st0 P K) (zSx_st S) (by rw [gI_sI_eq, zU_eq]) e

def zDbuy {a : Int → Int} {s g n : Int} : Decidable (fBuyOk a s g n) := inferInstanceAs (Decidable (_ ∧ _ ∧ _ ∧ _))
def zDsell {a : Int → Int} {s g n : Int} : Decidable (fSellOk a s g n) := inferInstanceAs (Decidable (_ ∧ _ ∧ _))
def zDsail {a : Int → Int} {s p : Int} : Decidable (fSailOk a s p) := inferInstanceAs (Decidable (_ ∧ _ ∧ _))
def oDeal (a : Int → Int) (s g n : Int) : Prop := (0 ≤ s ∧ s < a 3) ∧ (0 ≤ g ∧ g < a 1) ∧ (1 ≤ n ∧ n ≤ 60)
def zDdeal {a : Int → Int} {s g n : Int} : Decidable (oDeal a s g n) := inferInstanceAs (Decidable (_ ∧ _ ∧ _))
def oBuy (a : Int → Int) (s g n : Int) : (Int → Int) × Int × Int := @ite ((Int → Int) × Int × Int) (oDeal a s g n) zDdeal (@ite ((Int → Int) × Int × Int) (fBuyOk a s g n) zDbuy (fBuy a s g n, fBuy a s g n (153 + 15 * s + g), 0) (a, -1, 7)) (a, -1, 1)
def oSell (a : Int → Int) (s g n : Int) : (Int → Int) × Int × Int := @ite ((Int → Int) × Int × Int) (oDeal a s g n) zDdeal (@ite ((Int → Int) × Int × Int) (fSellOk a s g n) zDsell (fSell a s g n, fSell a s g n (153 + 15 * s + g), 0) (a, -1, 7)) (a, -1, 1)
def oDump (a : Int → Int) (s g n : Int) : (Int → Int) × Int × Int := @ite ((Int → Int) × Int × Int) (oDeal a s g n) zDdeal (if n ≤ a (153 + 15 * s + g) then (fDump a s g n, fDump a s g n (153 + 15 * s + g), 0) else (a, -1, 7)) (a, -1, 1)
def oSail (a : Int → Int) (s p : Int) : (Int → Int) × Int × Int := if (0 ≤ s ∧ s < a 3) ∧ (0 ≤ p ∧ p < a 2) then (@ite ((Int → Int) × Int × Int) (fSailOk a s p) zDsail (fSail a s p, fSail a s p (148 + 15 * s), 0) (a, -1, 7)) else (a, -1, 1)
def oRule (a : Int → Int) (y : Int) : (Int → Int) × Int × Int := if 0 ≤ y ∧ y ≤ 2 then (zU a 4 y, 1, 0) else (a, 0, 1)
def oTrade (a : Int → Int) (p g x : Int) : (Int → Int) × Int × Int := if (0 ≤ p ∧ p < a 2) ∧ (0 ≤ g ∧ g < a 1) ∧ (0 ≤ x ∧ x ≤ 99) then (zU a (57 + 15 * p + g) x, 1, 0) else (a, 0, 1)
def oPay (a : Int → Int) (s n : Int) : (Int → Int) × Int × Int := if (0 ≤ s ∧ s < a 3) ∧ (-9999 ≤ n ∧ n ≤ 9999) then (if 0 ≤ a (150 + 15 * s) + n ∧ a (150 + 15 * s) + n ≤ 9999 then (zU a (150 + 15 * s) (a (150 + 15 * s) + n), a (150 + 15 * s) + n, 0) else (a, -1, 7)) else (a, -1, 1)
theorem fBuy_3 {a : Int → Int} {s g n k : Int} (h0 : 0 ≤ s) (g0 : 0 ≤ g) (hk : k < 146) : fBuy a s g n k = a k := by
  unfold fBuy
  rw [zU_ne (by omega), zU_ne (by omega)]
theorem fSell_3 {a : Int → Int} {s g n k : Int} (h0 : 0 ≤ s) (g0 : 0 ≤ g) (hk : k < 146) : fSell a s g n k = a k := by
  unfold fSell
  rw [zU_ne (by omega), zU_ne (by omega)]
section O3
variable {d : Nat} {h : zHp} {Q : zRs → Prop} {a f nm : Int → Int}
theorem oM_buy {s g n : Int} (P : zMk h) (v : zIv a) (hQ : ∀ k9, Q (zRv (zi (oBuy a s g n).2.1) (zH2 (sI h 113 2 (oBuy a s g n).2.2) (oBuy a s g n).1 k9))) : zCm mX6_buy d [zr (some 113), zi s, zi g, zi n] (zH2 h a f) Q := by
  have P2 : ∀ a f, zMk (zH2 h a f) := fun _ _ => P
  have P3 : ∀ a f x, zMk (zH2 (sI h 113 2 x) a f) := fun _ _ _ => P
  have b0 := (zIgd v).1
  have b1 := (zIgd v).2.1
  have b2 := zIports v
  have b3 := zIships v
  have b4 := zIrule v
  have e7 : 146 + 15 * s + 7 + g = 153 + 15 * s + g := by omega
  by_cases hc : oDeal a s g n
  · have hd := hc
    unfold oDeal at hc
    simp (disch := (first | (simp only [gK_sI, gK_sJ, gK_sR, gK_sIA, gK_sJA, gR_sI, gR_sJ, gR_sIA, Nat.reduceLeDiff, Nat.reduceEqDiff, Nat.reduceLT, Int.reduceLE, Int.reduceLT, Int.reduceEq, zWt_i, zWt_l, zWt_r, zWt_n, zH2_gK, zH2_mk, P, zMkk P, zMr0 P, zMk0 P] <;> omega) | omega | fail)) only [if_pos, if_neg, wI_id, zLc_lt, zLc_gt, zLc_eq, zLc_le, zLc_ge, Int.reduceEq, Int.reduceLE, Int.reduceLT, Int.reduceNeg, Int.reduceAdd, Int.reduceMul, Int.reduceSub, not_true_eq_false, not_false_eq_true, reduceIte, zPo_v, zPo_n, zPo_t, zKl_i, zKl_r, zKl_n, zKl_l, gK_sI, gK_sJ, gK_sR, gK_sIA, gK_sJA, gR_sI, gR_sJ, gJ_sI, gI_sJ, gI_sR, gJ_sR, gR_sIA, gJ_sIA, Nat.reduceLeDiff, Nat.reduceEqDiff, and_self, and_true, true_and, and_false, false_and, eX6_buy_0, eX6_buy_1, eX6_buy_2, eX6_buy_3, eX6_buy_4, eX6_buy_7, eX6_buy_10, eX6_buy_11, eX6_buy_12, eX6_buy_15, eX6_buy_18, eX6_buy_19, eX6_buy_20, eX6_buy_21, eX6_buy_22, eX6_buy_25, eX6_buy_28, eX6_buy_29, eX6_buy_30, eX6_buy_33, eX6_buy_34, eX6_buy_35, eX6_buy_36, eX6_buy_39, eX6_buy_40, eX6_buy_43, eX6_buy_46, eX6_buy_47, eX6_buy_49, eX6_buy_52, eX6_buy_in, zH2_gK, zH2_gR, zH2_at, zH2_sI, zU_ne, P, zMkk P, zMr0 P, zMk0 P, cM_isDeal (P2 _ _)]
    refine kM_buys P v hc.1.1 hc.1.2 hc.2.1.1 (by omega) hc.2.2.1 hc.2.2.2 (fun ok => fun f2 => ?_) (fun ok => fun f2 => ?_)
    · have e : oBuy a s g n = (fBuy a s g n, fBuy a s g n (153 + 15 * s + g), 0) := by
        unfold oBuy
        rw [if_pos hd, if_pos ok]
      simp (disch := (first | (simp only [gK_sI, gK_sJ, gK_sR, gK_sIA, gK_sJA, gR_sI, gR_sJ, gR_sIA, Nat.reduceLeDiff, Nat.reduceEqDiff, Nat.reduceLT, Int.reduceLE, Int.reduceLT, Int.reduceEq, zWt_i, zWt_l, zWt_r, zWt_n, zH2_gK, zH2_mk, P, zMkk P, zMr0 P, zMk0 P] <;> omega) | omega | fail)) only [if_pos, if_neg, wI_id, zLc_lt, zLc_gt, zLc_eq, zLc_le, zLc_ge, Int.reduceEq, Int.reduceLE, Int.reduceLT, Int.reduceNeg, Int.reduceAdd, Int.reduceMul, Int.reduceSub, not_true_eq_false, not_false_eq_true, reduceIte, zPo_v, zPo_n, zPo_t, zKl_i, zKl_r, zKl_n, zKl_l, gK_sI, gK_sJ, gK_sR, gK_sIA, gK_sJA, gR_sI, gR_sJ, gJ_sI, gI_sJ, gI_sR, gJ_sR, gR_sIA, gJ_sIA, Nat.reduceLeDiff, Nat.reduceEqDiff, and_self, and_true, true_and, and_false, false_and, eX6_buy_0, eX6_buy_1, eX6_buy_2, eX6_buy_3, eX6_buy_4, eX6_buy_7, eX6_buy_10, eX6_buy_11, eX6_buy_12, eX6_buy_15, eX6_buy_18, eX6_buy_19, eX6_buy_20, eX6_buy_21, eX6_buy_22, eX6_buy_25, eX6_buy_28, eX6_buy_29, eX6_buy_30, eX6_buy_33, eX6_buy_34, eX6_buy_35, eX6_buy_36, eX6_buy_39, eX6_buy_40, eX6_buy_43, eX6_buy_46, eX6_buy_47, eX6_buy_49, eX6_buy_52, eX6_buy_in, zH2_gK, zH2_gR, zH2_at, zH2_sI, zU_ne, P, zMkk P, zMr0 P, zMk0 P, cM_loadRow, e7, cM_gives (P2 _ _), zH2_sIne]
      exact zGm hQ e _
    · have e : oBuy a s g n = (a, -1, 7) := by
        unfold oBuy
        rw [if_pos hd, if_neg ok]
      simp (disch := (first | (simp only [gK_sI, gK_sJ, gK_sR, gK_sIA, gK_sJA, gR_sI, gR_sJ, gR_sIA, Nat.reduceLeDiff, Nat.reduceEqDiff, Nat.reduceLT, Int.reduceLE, Int.reduceLT, Int.reduceEq, zWt_i, zWt_l, zWt_r, zWt_n, zH2_gK, zH2_mk, P, zMkk P, zMr0 P, zMk0 P] <;> omega) | omega | fail)) only [if_pos, if_neg, wI_id, zLc_lt, zLc_gt, zLc_eq, zLc_le, zLc_ge, Int.reduceEq, Int.reduceLE, Int.reduceLT, Int.reduceNeg, Int.reduceAdd, Int.reduceMul, Int.reduceSub, not_true_eq_false, not_false_eq_true, reduceIte, zPo_v, zPo_n, zPo_t, zKl_i, zKl_r, zKl_n, zKl_l, gK_sI, gK_sJ, gK_sR, gK_sIA, gK_sJA, gR_sI, gR_sJ, gJ_sI, gI_sJ, gI_sR, gJ_sR, gR_sIA, gJ_sIA, Nat.reduceLeDiff, Nat.reduceEqDiff, and_self, and_true, true_and, and_false, false_and, eX6_buy_0, eX6_buy_1, eX6_buy_2, eX6_buy_3, eX6_buy_4, eX6_buy_7, eX6_buy_10, eX6_buy_11, eX6_buy_12, eX6_buy_15, eX6_buy_18, eX6_buy_19, eX6_buy_20, eX6_buy_21, eX6_buy_22, eX6_buy_25, eX6_buy_28, eX6_buy_29, eX6_buy_30, eX6_buy_33, eX6_buy_34, eX6_buy_35, eX6_buy_36, eX6_buy_39, eX6_buy_40, eX6_buy_43, eX6_buy_46, eX6_buy_47, eX6_buy_49, eX6_buy_52, eX6_buy_in, zH2_gK, zH2_gR, zH2_at, zH2_sI, zU_ne, P, zMkk P, zMr0 P, zMk0 P, cM_refuse (P2 _ _), zH2_sIne]
      exact zGm hQ e _
  · have e : oBuy a s g n = (a, -1, 1) := if_neg hc
    unfold oDeal at hc
    have h9 := zGm hQ e f
    simp (disch := (first | (simp only [gK_sI, gK_sJ, gK_sR, gK_sIA, gK_sJA, gR_sI, gR_sJ, gR_sIA, Nat.reduceLeDiff, Nat.reduceEqDiff, Nat.reduceLT, Int.reduceLE, Int.reduceLT, Int.reduceEq, zWt_i, zWt_l, zWt_r, zWt_n, zH2_gK, zH2_mk, P, zMkk P, zMr0 P, zMk0 P] <;> omega) | omega | fail)) only [wI_id, zLc_lt, zLc_gt, zLc_eq, zLc_le, zLc_ge, Int.reduceEq, Int.reduceLE, Int.reduceLT, Int.reduceNeg, Int.reduceAdd, Int.reduceMul, Int.reduceSub, not_true_eq_false, not_false_eq_true, reduceIte, zPo_v, zPo_n, zPo_t, zKl_i, zKl_r, zKl_n, zKl_l, gK_sI, gK_sJ, gK_sR, gK_sIA, gK_sJA, gR_sI, gR_sJ, gJ_sI, gI_sJ, gI_sR, gJ_sR, gR_sIA, gJ_sIA, Nat.reduceLeDiff, Nat.reduceEqDiff, and_self, and_true, true_and, and_false, false_and, eX6_buy_0, eX6_buy_1, eX6_buy_2, eX6_buy_3, eX6_buy_4, eX6_buy_7, eX6_buy_10, eX6_buy_11, eX6_buy_12, eX6_buy_15, eX6_buy_18, eX6_buy_19, eX6_buy_20, eX6_buy_21, eX6_buy_22, eX6_buy_25, eX6_buy_28, eX6_buy_29, eX6_buy_30, eX6_buy_33, eX6_buy_34, eX6_buy_35, eX6_buy_36, eX6_buy_39, eX6_buy_40, eX6_buy_43, eX6_buy_46, eX6_buy_47, eX6_buy_49, eX6_buy_52, eX6_buy_in, zH2_gK, zH2_gR, zH2_at, zH2_sI, zU_ne, P, zMkk P, zMr0 P, zMk0 P, cM_isDeal (P2 _ _), cM_refuse (P2 _ _), zH2_sIne]
    (repeat' split) <;> first | exact h9 | (exfalso; omega)
theorem oX_buy {s g n : Int} (K : zXk h) (v : zIv a) (P : zPw h 75 a nm) (hQ : ∀ h', zPw h' 75 (oBuy a s g n).1 nm → zSx h h' → gI h' 65 7 = (oBuy a s g n).2.2 → Q (zRv (zi (oBuy a s g n).2.1) h')) : zCm mX0_buy d [zr (some 65), zi s, zi g, zi n] h Q := by
  have W := P.2.1
  have e2 : ∀ x, zXk (sI h 65 7 x) := fun _ => K
  have P9 : ∀ x, zPw (sI h 65 7 x) 75 a nm := fun x => zPw_st v P K
  have S9 : ∀ x, zSx h (sI h 65 7 x) := fun x => zSx_st zSx_rf
  have b0 := (zIgd v).1
  have b1 := (zIgd v).2.1
  have b2 := zIports v
  have b3 := zIships v
  have b4 := zIrule v
  by_cases hc : oDeal a s g n
  · have hd := hc
    unfold oDeal at hc
    simp (disch := (first | (simp only [gK_sI, gK_sJ, gK_sR, gK_sIA, gK_sJA, gR_sI, gR_sJ, gR_sIA, Nat.reduceLeDiff, Nat.reduceEqDiff, Nat.reduceLT, Int.reduceLE, Int.reduceLT, Int.reduceEq, zWt_i, zWt_l, zWt_r, zWt_n, K, zXkk K, zXh0 K, W, zWkk W, zWr19 W, zWk19 W, e2] <;> omega) | omega | fail)) only [if_pos, if_neg, wI_id, zLc_lt, zLc_gt, zLc_eq, zLc_le, zLc_ge, Int.reduceEq, Int.reduceLE, Int.reduceLT, Int.reduceNeg, Int.reduceAdd, Int.reduceMul, Int.reduceSub, not_true_eq_false, not_false_eq_true, reduceIte, zPo_v, zPo_n, zPo_t, zKl_i, zKl_r, zKl_n, zKl_l, gK_sI, gK_sJ, gK_sR, gK_sIA, gK_sJA, gR_sI, gR_sJ, gJ_sI, gI_sJ, gI_sR, gJ_sR, gR_sIA, gJ_sIA, Nat.reduceLeDiff, Nat.reduceEqDiff, and_self, and_true, true_and, and_false, false_and, eX0_buy_0, eX0_buy_1, eX0_buy_2, eX0_buy_3, eX0_buy_4, eX0_buy_5, eX0_buy_8, eX0_buy_11, eX0_buy_12, eX0_buy_15, eX0_buy_16, eX0_buy_19, eX0_buy_20, eX0_buy_21, eX0_buy_22, eX0_buy_25, eX0_buy_28, eX0_buy_29, eX0_buy_32, eX0_buy_34, eX0_buy_37, eX0_buy_38, eX0_buy_41, eX0_buy_44, eX0_buy_45, eX0_buy_48, eX0_buy_49, eX0_buy_52, eX0_buy_55, eX0_buy_57, eX0_buy_58, eX0_buy_59, eX0_buy_60, eX0_buy_61, eX0_buy_62, tX0_buy, eX0_buy_in, K, zXkk K, zXh0 K, W, zWkk W, zWr19 W, zWk19 W, kX0_isLoad K v P, kX0_at]
    refine kX_buys v P hc.1.1 hc.1.2 hc.2.1.1 (by omega) hc.2.2.1 hc.2.2.2 (fun ok h1 P1 S1 => ?_) (fun ok => ?_)
    · have e : oBuy a s g n = (fBuy a s g n, fBuy a s g n (153 + 15 * s + g), 0) := by
        unfold oBuy
        rw [if_pos hd, if_pos ok]
      have K1 : zXk h1 := zXk_w S1 K
      have W1 := P1.2.1
      have e3 : ∀ x, zXk (sI h1 65 7 x) := fun _ => K1
      have e1 : gI h1 89 (8 * s + g) = fBuy a s g n (153 + 15 * s + g) := P1.2.2.1.2.2.2.2.2.2.2.2.2.2.2 s g (by omega) (by omega) (by omega) (by omega)
      simp (disch := (first | (simp only [gK_sI, gK_sJ, gK_sR, gK_sIA, gK_sJA, gR_sI, gR_sJ, gR_sIA, Nat.reduceLeDiff, Nat.reduceEqDiff, Nat.reduceLT, Int.reduceLE, Int.reduceLT, Int.reduceEq, zWt_i, zWt_l, zWt_r, zWt_n, K1, zXkk K1, zXh0 K1, W1, zWkk W1, zWr19 W1, zWk19 W1, e3] <;> omega) | omega | fail)) only [if_pos, if_neg, wI_id, zLc_lt, zLc_gt, zLc_eq, zLc_le, zLc_ge, Int.reduceEq, Int.reduceLE, Int.reduceLT, Int.reduceNeg, Int.reduceAdd, Int.reduceMul, Int.reduceSub, not_true_eq_false, not_false_eq_true, reduceIte, zPo_v, zPo_n, zPo_t, zKl_i, zKl_r, zKl_n, zKl_l, gK_sI, gK_sJ, gK_sR, gK_sIA, gK_sJA, gR_sI, gR_sJ, gJ_sI, gI_sJ, gI_sR, gJ_sR, gR_sIA, gJ_sIA, Nat.reduceLeDiff, Nat.reduceEqDiff, and_self, and_true, true_and, and_false, false_and, eX0_buy_0, eX0_buy_1, eX0_buy_2, eX0_buy_3, eX0_buy_4, eX0_buy_5, eX0_buy_8, eX0_buy_11, eX0_buy_12, eX0_buy_15, eX0_buy_16, eX0_buy_19, eX0_buy_20, eX0_buy_21, eX0_buy_22, eX0_buy_25, eX0_buy_28, eX0_buy_29, eX0_buy_32, eX0_buy_34, eX0_buy_37, eX0_buy_38, eX0_buy_41, eX0_buy_44, eX0_buy_45, eX0_buy_48, eX0_buy_49, eX0_buy_52, eX0_buy_55, eX0_buy_57, eX0_buy_58, eX0_buy_59, eX0_buy_60, eX0_buy_61, eX0_buy_62, tX0_buy, eX0_buy_in, K1, zXkk K1, zXh0 K1, W1, zWkk W1, zWr19 W1, zWk19 W1, kX0_at, gI_sI_ne, gI_sI_eq, zU_eq, Nat.reduceAdd, e1]
      exact zGxs hQ K1 P1 (zSx_w S1) e
    · have e : oBuy a s g n = (a, -1, 7) := by
        unfold oBuy
        rw [if_pos hd, if_neg ok]
      simp (disch := (first | (simp only [gK_sI, gK_sJ, gK_sR, gK_sIA, gK_sJA, gR_sI, gR_sJ, gR_sIA, Nat.reduceLeDiff, Nat.reduceEqDiff, Nat.reduceLT, Int.reduceLE, Int.reduceLT, Int.reduceEq, zWt_i, zWt_l, zWt_r, zWt_n, K, zXkk K, zXh0 K, W, zWkk W, zWr19 W, zWk19 W, e2] <;> omega) | omega | fail)) only [if_pos, if_neg, wI_id, zLc_lt, zLc_gt, zLc_eq, zLc_le, zLc_ge, Int.reduceEq, Int.reduceLE, Int.reduceLT, Int.reduceNeg, Int.reduceAdd, Int.reduceMul, Int.reduceSub, not_true_eq_false, not_false_eq_true, reduceIte, zPo_v, zPo_n, zPo_t, zKl_i, zKl_r, zKl_n, zKl_l, gK_sI, gK_sJ, gK_sR, gK_sIA, gK_sJA, gR_sI, gR_sJ, gJ_sI, gI_sJ, gI_sR, gJ_sR, gR_sIA, gJ_sIA, Nat.reduceLeDiff, Nat.reduceEqDiff, and_self, and_true, true_and, and_false, false_and, eX0_buy_0, eX0_buy_1, eX0_buy_2, eX0_buy_3, eX0_buy_4, eX0_buy_5, eX0_buy_8, eX0_buy_11, eX0_buy_12, eX0_buy_15, eX0_buy_16, eX0_buy_19, eX0_buy_20, eX0_buy_21, eX0_buy_22, eX0_buy_25, eX0_buy_28, eX0_buy_29, eX0_buy_32, eX0_buy_34, eX0_buy_37, eX0_buy_38, eX0_buy_41, eX0_buy_44, eX0_buy_45, eX0_buy_48, eX0_buy_49, eX0_buy_52, eX0_buy_55, eX0_buy_57, eX0_buy_58, eX0_buy_59, eX0_buy_60, eX0_buy_61, eX0_buy_62, tX0_buy, eX0_buy_in, K, zXkk K, zXh0 K, W, zWkk W, zWr19 W, zWk19 W, kX0_at, gI_sI_ne, gI_sI_eq, zU_eq]
      exact zGxs hQ K P zSx_rf e
  · have e : oBuy a s g n = (a, -1, 1) := if_neg hc
    have h9 := zGxs hQ K P zSx_rf e
    unfold oDeal at hc
    simp (disch := (first | (simp only [gK_sI, gK_sJ, gK_sR, gK_sIA, gK_sJA, gR_sI, gR_sJ, gR_sIA, Nat.reduceLeDiff, Nat.reduceEqDiff, Nat.reduceLT, Int.reduceLE, Int.reduceLT, Int.reduceEq, zWt_i, zWt_l, zWt_r, zWt_n, K, zXkk K, zXh0 K, W, zWkk W, zWr19 W, zWk19 W, e2] <;> omega) | omega | fail)) only [wI_id, zLc_lt, zLc_gt, zLc_eq, zLc_le, zLc_ge, Int.reduceEq, Int.reduceLE, Int.reduceLT, Int.reduceNeg, Int.reduceAdd, Int.reduceMul, Int.reduceSub, not_true_eq_false, not_false_eq_true, reduceIte, zPo_v, zPo_n, zPo_t, zKl_i, zKl_r, zKl_n, zKl_l, gK_sI, gK_sJ, gK_sR, gK_sIA, gK_sJA, gR_sI, gR_sJ, gJ_sI, gI_sJ, gI_sR, gJ_sR, gR_sIA, gJ_sIA, Nat.reduceLeDiff, Nat.reduceEqDiff, and_self, and_true, true_and, and_false, false_and, eX0_buy_0, eX0_buy_1, eX0_buy_2, eX0_buy_3, eX0_buy_4, eX0_buy_5, eX0_buy_8, eX0_buy_11, eX0_buy_12, eX0_buy_15, eX0_buy_16, eX0_buy_19, eX0_buy_20, eX0_buy_21, eX0_buy_22, eX0_buy_25, eX0_buy_28, eX0_buy_29, eX0_buy_32, eX0_buy_34, eX0_buy_37, eX0_buy_38, eX0_buy_41, eX0_buy_44, eX0_buy_45, eX0_buy_48, eX0_buy_49, eX0_buy_52, eX0_buy_55, eX0_buy_57, eX0_buy_58, eX0_buy_59, eX0_buy_60, eX0_buy_61, eX0_buy_62, tX0_buy, eX0_buy_in, K, zXkk K, zXh0 K, W, zWkk W, zWr19 W, zWk19 W, kX0_isLoad K v P, gI_sI_ne, gI_sI_eq, zU_eq]
    (repeat' split) <;> first | exact h9 | (exfalso; omega)
theorem oM_sell {s g n : Int} (P : zMk h) (v : zIv a) (hQ : ∀ k9, Q (zRv (zi (oSell a s g n).2.1) (zH2 (sI h 113 2 (oSell a s g n).2.2) (oSell a s g n).1 k9))) : zCm mX6_sell d [zr (some 113), zi s, zi g, zi n] (zH2 h a f) Q := by
  have P2 : ∀ a f, zMk (zH2 h a f) := fun _ _ => P
  have P3 : ∀ a f x, zMk (zH2 (sI h 113 2 x) a f) := fun _ _ _ => P
  have b0 := (zIgd v).1
  have b1 := (zIgd v).2.1
  have b2 := zIports v
  have b3 := zIships v
  have b4 := zIrule v
  have e7 : 146 + 15 * s + 7 + g = 153 + 15 * s + g := by omega
  by_cases hc : oDeal a s g n
  · have hd := hc
    unfold oDeal at hc
    simp (disch := (first | (simp only [gK_sI, gK_sJ, gK_sR, gK_sIA, gK_sJA, gR_sI, gR_sJ, gR_sIA, Nat.reduceLeDiff, Nat.reduceEqDiff, Nat.reduceLT, Int.reduceLE, Int.reduceLT, Int.reduceEq, zWt_i, zWt_l, zWt_r, zWt_n, zH2_gK, zH2_mk, P, zMkk P, zMr0 P, zMk0 P] <;> omega) | omega | fail)) only [if_pos, if_neg, wI_id, zLc_lt, zLc_gt, zLc_eq, zLc_le, zLc_ge, Int.reduceEq, Int.reduceLE, Int.reduceLT, Int.reduceNeg, Int.reduceAdd, Int.reduceMul, Int.reduceSub, not_true_eq_false, not_false_eq_true, reduceIte, zPo_v, zPo_n, zPo_t, zKl_i, zKl_r, zKl_n, zKl_l, gK_sI, gK_sJ, gK_sR, gK_sIA, gK_sJA, gR_sI, gR_sJ, gJ_sI, gI_sJ, gI_sR, gJ_sR, gR_sIA, gJ_sIA, Nat.reduceLeDiff, Nat.reduceEqDiff, and_self, and_true, true_and, and_false, false_and, eX6_sell_0, eX6_sell_1, eX6_sell_2, eX6_sell_3, eX6_sell_4, eX6_sell_7, eX6_sell_10, eX6_sell_11, eX6_sell_12, eX6_sell_15, eX6_sell_18, eX6_sell_19, eX6_sell_20, eX6_sell_21, eX6_sell_22, eX6_sell_25, eX6_sell_28, eX6_sell_29, eX6_sell_30, eX6_sell_33, eX6_sell_34, eX6_sell_35, eX6_sell_36, eX6_sell_39, eX6_sell_40, eX6_sell_43, eX6_sell_46, eX6_sell_47, eX6_sell_49, eX6_sell_52, eX6_sell_in, zH2_gK, zH2_gR, zH2_at, zH2_sI, zU_ne, P, zMkk P, zMr0 P, zMk0 P, cM_isDeal (P2 _ _)]
    refine kM_sells P v hc.1.1 hc.1.2 hc.2.1.1 (by omega) hc.2.2.1 hc.2.2.2 (fun ok => ?_) (fun ok => ?_)
    · have e : oSell a s g n = (fSell a s g n, fSell a s g n (153 + 15 * s + g), 0) := by
        unfold oSell
        rw [if_pos hd, if_pos ok]
      simp (disch := (first | (simp only [gK_sI, gK_sJ, gK_sR, gK_sIA, gK_sJA, gR_sI, gR_sJ, gR_sIA, Nat.reduceLeDiff, Nat.reduceEqDiff, Nat.reduceLT, Int.reduceLE, Int.reduceLT, Int.reduceEq, zWt_i, zWt_l, zWt_r, zWt_n, zH2_gK, zH2_mk, P, zMkk P, zMr0 P, zMk0 P] <;> omega) | omega | fail)) only [if_pos, if_neg, wI_id, zLc_lt, zLc_gt, zLc_eq, zLc_le, zLc_ge, Int.reduceEq, Int.reduceLE, Int.reduceLT, Int.reduceNeg, Int.reduceAdd, Int.reduceMul, Int.reduceSub, not_true_eq_false, not_false_eq_true, reduceIte, zPo_v, zPo_n, zPo_t, zKl_i, zKl_r, zKl_n, zKl_l, gK_sI, gK_sJ, gK_sR, gK_sIA, gK_sJA, gR_sI, gR_sJ, gJ_sI, gI_sJ, gI_sR, gJ_sR, gR_sIA, gJ_sIA, Nat.reduceLeDiff, Nat.reduceEqDiff, and_self, and_true, true_and, and_false, false_and, eX6_sell_0, eX6_sell_1, eX6_sell_2, eX6_sell_3, eX6_sell_4, eX6_sell_7, eX6_sell_10, eX6_sell_11, eX6_sell_12, eX6_sell_15, eX6_sell_18, eX6_sell_19, eX6_sell_20, eX6_sell_21, eX6_sell_22, eX6_sell_25, eX6_sell_28, eX6_sell_29, eX6_sell_30, eX6_sell_33, eX6_sell_34, eX6_sell_35, eX6_sell_36, eX6_sell_39, eX6_sell_40, eX6_sell_43, eX6_sell_46, eX6_sell_47, eX6_sell_49, eX6_sell_52, eX6_sell_in, zH2_gK, zH2_gR, zH2_at, zH2_sI, zU_ne, P, zMkk P, zMr0 P, zMk0 P, cM_loadRow, e7, cM_gives (P2 _ _), zH2_sIne]
      exact zGm hQ e _
    · have e : oSell a s g n = (a, -1, 7) := by
        unfold oSell
        rw [if_pos hd, if_neg ok]
      simp (disch := (first | (simp only [gK_sI, gK_sJ, gK_sR, gK_sIA, gK_sJA, gR_sI, gR_sJ, gR_sIA, Nat.reduceLeDiff, Nat.reduceEqDiff, Nat.reduceLT, Int.reduceLE, Int.reduceLT, Int.reduceEq, zWt_i, zWt_l, zWt_r, zWt_n, zH2_gK, zH2_mk, P, zMkk P, zMr0 P, zMk0 P] <;> omega) | omega | fail)) only [if_pos, if_neg, wI_id, zLc_lt, zLc_gt, zLc_eq, zLc_le, zLc_ge, Int.reduceEq, Int.reduceLE, Int.reduceLT, Int.reduceNeg, Int.reduceAdd, Int.reduceMul, Int.reduceSub, not_true_eq_false, not_false_eq_true, reduceIte, zPo_v, zPo_n, zPo_t, zKl_i, zKl_r, zKl_n, zKl_l, gK_sI, gK_sJ, gK_sR, gK_sIA, gK_sJA, gR_sI, gR_sJ, gJ_sI, gI_sJ, gI_sR, gJ_sR, gR_sIA, gJ_sIA, Nat.reduceLeDiff, Nat.reduceEqDiff, and_self, and_true, true_and, and_false, false_and, eX6_sell_0, eX6_sell_1, eX6_sell_2, eX6_sell_3, eX6_sell_4, eX6_sell_7, eX6_sell_10, eX6_sell_11, eX6_sell_12, eX6_sell_15, eX6_sell_18, eX6_sell_19, eX6_sell_20, eX6_sell_21, eX6_sell_22, eX6_sell_25, eX6_sell_28, eX6_sell_29, eX6_sell_30, eX6_sell_33, eX6_sell_34, eX6_sell_35, eX6_sell_36, eX6_sell_39, eX6_sell_40, eX6_sell_43, eX6_sell_46, eX6_sell_47, eX6_sell_49, eX6_sell_52, eX6_sell_in, zH2_gK, zH2_gR, zH2_at, zH2_sI, zU_ne, P, zMkk P, zMr0 P, zMk0 P, cM_refuse (P2 _ _), zH2_sIne]
      exact zGm hQ e _
  · have e : oSell a s g n = (a, -1, 1) := if_neg hc
    unfold oDeal at hc
    have h9 := zGm hQ e f
    simp (disch := (first | (simp only [gK_sI, gK_sJ, gK_sR, gK_sIA, gK_sJA, gR_sI, gR_sJ, gR_sIA, Nat.reduceLeDiff, Nat.reduceEqDiff, Nat.reduceLT, Int.reduceLE, Int.reduceLT, Int.reduceEq, zWt_i, zWt_l, zWt_r, zWt_n, zH2_gK, zH2_mk, P, zMkk P, zMr0 P, zMk0 P] <;> omega) | omega | fail)) only [wI_id, zLc_lt, zLc_gt, zLc_eq, zLc_le, zLc_ge, Int.reduceEq, Int.reduceLE, Int.reduceLT, Int.reduceNeg, Int.reduceAdd, Int.reduceMul, Int.reduceSub, not_true_eq_false, not_false_eq_true, reduceIte, zPo_v, zPo_n, zPo_t, zKl_i, zKl_r, zKl_n, zKl_l, gK_sI, gK_sJ, gK_sR, gK_sIA, gK_sJA, gR_sI, gR_sJ, gJ_sI, gI_sJ, gI_sR, gJ_sR, gR_sIA, gJ_sIA, Nat.reduceLeDiff, Nat.reduceEqDiff, and_self, and_true, true_and, and_false, false_and, eX6_sell_0, eX6_sell_1, eX6_sell_2, eX6_sell_3, eX6_sell_4, eX6_sell_7, eX6_sell_10, eX6_sell_11, eX6_sell_12, eX6_sell_15, eX6_sell_18, eX6_sell_19, eX6_sell_20, eX6_sell_21, eX6_sell_22, eX6_sell_25, eX6_sell_28, eX6_sell_29, eX6_sell_30, eX6_sell_33, eX6_sell_34, eX6_sell_35, eX6_sell_36, eX6_sell_39, eX6_sell_40, eX6_sell_43, eX6_sell_46, eX6_sell_47, eX6_sell_49, eX6_sell_52, eX6_sell_in, zH2_gK, zH2_gR, zH2_at, zH2_sI, zU_ne, P, zMkk P, zMr0 P, zMk0 P, cM_isDeal (P2 _ _), cM_refuse (P2 _ _), zH2_sIne]
    (repeat' split) <;> first | exact h9 | (exfalso; omega)
theorem oX_sell {s g n : Int} (K : zXk h) (v : zIv a) (P : zPw h 75 a nm) (hQ : ∀ h', zPw h' 75 (oSell a s g n).1 nm → zSx h h' → gI h' 65 7 = (oSell a s g n).2.2 → Q (zRv (zi (oSell a s g n).2.1) h')) : zCm mX0_sell d [zr (some 65), zi s, zi g, zi n] h Q := by
  have W := P.2.1
  have e2 : ∀ x, zXk (sI h 65 7 x) := fun _ => K
  have P9 : ∀ x, zPw (sI h 65 7 x) 75 a nm := fun x => zPw_st v P K
  have S9 : ∀ x, zSx h (sI h 65 7 x) := fun x => zSx_st zSx_rf
  have b0 := (zIgd v).1
  have b1 := (zIgd v).2.1
  have b2 := zIports v
  have b3 := zIships v
  have b4 := zIrule v
  by_cases hc : oDeal a s g n
  · have hd := hc
    unfold oDeal at hc
    simp (disch := (first | (simp only [gK_sI, gK_sJ, gK_sR, gK_sIA, gK_sJA, gR_sI, gR_sJ, gR_sIA, Nat.reduceLeDiff, Nat.reduceEqDiff, Nat.reduceLT, Int.reduceLE, Int.reduceLT, Int.reduceEq, zWt_i, zWt_l, zWt_r, zWt_n, K, zXkk K, zXh0 K, W, zWkk W, zWr19 W, zWk19 W, e2] <;> omega) | omega | fail)) only [if_pos, if_neg, wI_id, zLc_lt, zLc_gt, zLc_eq, zLc_le, zLc_ge, Int.reduceEq, Int.reduceLE, Int.reduceLT, Int.reduceNeg, Int.reduceAdd, Int.reduceMul, Int.reduceSub, not_true_eq_false, not_false_eq_true, reduceIte, zPo_v, zPo_n, zPo_t, zKl_i, zKl_r, zKl_n, zKl_l, gK_sI, gK_sJ, gK_sR, gK_sIA, gK_sJA, gR_sI, gR_sJ, gJ_sI, gI_sJ, gI_sR, gJ_sR, gR_sIA, gJ_sIA, Nat.reduceLeDiff, Nat.reduceEqDiff, and_self, and_true, true_and, and_false, false_and, eX0_sell_0, eX0_sell_1, eX0_sell_2, eX0_sell_3, eX0_sell_4, eX0_sell_5, eX0_sell_8, eX0_sell_11, eX0_sell_12, eX0_sell_15, eX0_sell_16, eX0_sell_19, eX0_sell_20, eX0_sell_21, eX0_sell_22, eX0_sell_25, eX0_sell_28, eX0_sell_29, eX0_sell_32, eX0_sell_34, eX0_sell_37, eX0_sell_38, eX0_sell_41, eX0_sell_44, eX0_sell_45, eX0_sell_48, eX0_sell_49, eX0_sell_52, eX0_sell_55, eX0_sell_57, eX0_sell_58, eX0_sell_59, eX0_sell_60, eX0_sell_61, eX0_sell_62, tX0_sell, eX0_sell_in, K, zXkk K, zXh0 K, W, zWkk W, zWr19 W, zWk19 W, kX0_isLoad K v P, kX0_at]
    refine kX_sells v P hc.1.1 hc.1.2 hc.2.1.1 (by omega) hc.2.2.1 hc.2.2.2 (fun ok h1 P1 S1 => ?_) (fun ok => ?_)
    · have e : oSell a s g n = (fSell a s g n, fSell a s g n (153 + 15 * s + g), 0) := by
        unfold oSell
        rw [if_pos hd, if_pos ok]
      have K1 : zXk h1 := zXk_w S1 K
      have W1 := P1.2.1
      have e3 : ∀ x, zXk (sI h1 65 7 x) := fun _ => K1
      have e1 : gI h1 89 (8 * s + g) = fSell a s g n (153 + 15 * s + g) := P1.2.2.1.2.2.2.2.2.2.2.2.2.2.2 s g (by omega) (by omega) (by omega) (by omega)
      simp (disch := (first | (simp only [gK_sI, gK_sJ, gK_sR, gK_sIA, gK_sJA, gR_sI, gR_sJ, gR_sIA, Nat.reduceLeDiff, Nat.reduceEqDiff, Nat.reduceLT, Int.reduceLE, Int.reduceLT, Int.reduceEq, zWt_i, zWt_l, zWt_r, zWt_n, K1, zXkk K1, zXh0 K1, W1, zWkk W1, zWr19 W1, zWk19 W1, e3] <;> omega) | omega | fail)) only [if_pos, if_neg, wI_id, zLc_lt, zLc_gt, zLc_eq, zLc_le, zLc_ge, Int.reduceEq, Int.reduceLE, Int.reduceLT, Int.reduceNeg, Int.reduceAdd, Int.reduceMul, Int.reduceSub, not_true_eq_false, not_false_eq_true, reduceIte, zPo_v, zPo_n, zPo_t, zKl_i, zKl_r, zKl_n, zKl_l, gK_sI, gK_sJ, gK_sR, gK_sIA, gK_sJA, gR_sI, gR_sJ, gJ_sI, gI_sJ, gI_sR, gJ_sR, gR_sIA, gJ_sIA, Nat.reduceLeDiff, Nat.reduceEqDiff, and_self, and_true, true_and, and_false, false_and, eX0_sell_0, eX0_sell_1, eX0_sell_2, eX0_sell_3, eX0_sell_4, eX0_sell_5, eX0_sell_8, eX0_sell_11, eX0_sell_12, eX0_sell_15, eX0_sell_16, eX0_sell_19, eX0_sell_20, eX0_sell_21, eX0_sell_22, eX0_sell_25, eX0_sell_28, eX0_sell_29, eX0_sell_32, eX0_sell_34, eX0_sell_37, eX0_sell_38, eX0_sell_41, eX0_sell_44, eX0_sell_45, eX0_sell_48, eX0_sell_49, eX0_sell_52, eX0_sell_55, eX0_sell_57, eX0_sell_58, eX0_sell_59, eX0_sell_60, eX0_sell_61, eX0_sell_62, tX0_sell, eX0_sell_in, K1, zXkk K1, zXh0 K1, W1, zWkk W1, zWr19 W1, zWk19 W1, kX0_at, gI_sI_ne, gI_sI_eq, zU_eq, Nat.reduceAdd, e1]
      exact zGxs hQ K1 P1 (zSx_w S1) e
    · have e : oSell a s g n = (a, -1, 7) := by
        unfold oSell
        rw [if_pos hd, if_neg ok]
      simp (disch := (first | (simp only [gK_sI, gK_sJ, gK_sR, gK_sIA, gK_sJA, gR_sI, gR_sJ, gR_sIA, Nat.reduceLeDiff, Nat.reduceEqDiff, Nat.reduceLT, Int.reduceLE, Int.reduceLT, Int.reduceEq, zWt_i, zWt_l, zWt_r, zWt_n, K, zXkk K, zXh0 K, W, zWkk W, zWr19 W, zWk19 W, e2] <;> omega) | omega | fail)) only [if_pos, if_neg, wI_id, zLc_lt, zLc_gt, zLc_eq, zLc_le, zLc_ge, Int.reduceEq, Int.reduceLE, Int.reduceLT, Int.reduceNeg, Int.reduceAdd, Int.reduceMul, Int.reduceSub, not_true_eq_false, not_false_eq_true, reduceIte, zPo_v, zPo_n, zPo_t, zKl_i, zKl_r, zKl_n, zKl_l, gK_sI, gK_sJ, gK_sR, gK_sIA, gK_sJA, gR_sI, gR_sJ, gJ_sI, gI_sJ, gI_sR, gJ_sR, gR_sIA, gJ_sIA, Nat.reduceLeDiff, Nat.reduceEqDiff, and_self, and_true, true_and, and_false, false_and, eX0_sell_0, eX0_sell_1, eX0_sell_2, eX0_sell_3, eX0_sell_4, eX0_sell_5, eX0_sell_8, eX0_sell_11, eX0_sell_12, eX0_sell_15, eX0_sell_16, eX0_sell_19, eX0_sell_20, eX0_sell_21, eX0_sell_22, eX0_sell_25, eX0_sell_28, eX0_sell_29, eX0_sell_32, eX0_sell_34, eX0_sell_37, eX0_sell_38, eX0_sell_41, eX0_sell_44, eX0_sell_45, eX0_sell_48, eX0_sell_49, eX0_sell_52, eX0_sell_55, eX0_sell_57, eX0_sell_58, eX0_sell_59, eX0_sell_60, eX0_sell_61, eX0_sell_62, tX0_sell, eX0_sell_in, K, zXkk K, zXh0 K, W, zWkk W, zWr19 W, zWk19 W, kX0_at, gI_sI_ne, gI_sI_eq, zU_eq]
      exact zGxs hQ K P zSx_rf e
  · have e : oSell a s g n = (a, -1, 1) := if_neg hc
    have h9 := zGxs hQ K P zSx_rf e
    unfold oDeal at hc
    simp (disch := (first | (simp only [gK_sI, gK_sJ, gK_sR, gK_sIA, gK_sJA, gR_sI, gR_sJ, gR_sIA, Nat.reduceLeDiff, Nat.reduceEqDiff, Nat.reduceLT, Int.reduceLE, Int.reduceLT, Int.reduceEq, zWt_i, zWt_l, zWt_r, zWt_n, K, zXkk K, zXh0 K, W, zWkk W, zWr19 W, zWk19 W, e2] <;> omega) | omega | fail)) only [wI_id, zLc_lt, zLc_gt, zLc_eq, zLc_le, zLc_ge, Int.reduceEq, Int.reduceLE, Int.reduceLT, Int.reduceNeg, Int.reduceAdd, Int.reduceMul, Int.reduceSub, not_true_eq_false, not_false_eq_true, reduceIte, zPo_v, zPo_n, zPo_t, zKl_i, zKl_r, zKl_n, zKl_l, gK_sI, gK_sJ, gK_sR, gK_sIA, gK_sJA, gR_sI, gR_sJ, gJ_sI, gI_sJ, gI_sR, gJ_sR, gR_sIA, gJ_sIA, Nat.reduceLeDiff, Nat.reduceEqDiff, and_self, and_true, true_and, and_false, false_and, eX0_sell_0, eX0_sell_1, eX0_sell_2, eX0_sell_3, eX0_sell_4, eX0_sell_5, eX0_sell_8, eX0_sell_11, eX0_sell_12, eX0_sell_15, eX0_sell_16, eX0_sell_19, eX0_sell_20, eX0_sell_21, eX0_sell_22, eX0_sell_25, eX0_sell_28, eX0_sell_29, eX0_sell_32, eX0_sell_34, eX0_sell_37, eX0_sell_38, eX0_sell_41, eX0_sell_44, eX0_sell_45, eX0_sell_48, eX0_sell_49, eX0_sell_52, eX0_sell_55, eX0_sell_57, eX0_sell_58, eX0_sell_59, eX0_sell_60, eX0_sell_61, eX0_sell_62, tX0_sell, eX0_sell_in, K, zXkk K, zXh0 K, W, zWkk W, zWr19 W, zWk19 W, kX0_isLoad K v P, gI_sI_ne, gI_sI_eq, zU_eq]
    (repeat' split) <;> first | exact h9 | (exfalso; omega)
theorem oM_dump {s g n : Int} (P : zMk h) (v : zIv a) (hQ : ∀ k9, Q (zRv (zi (oDump a s g n).2.1) (zH2 (sI h 113 2 (oDump a s g n).2.2) (oDump a s g n).1 k9))) : zCm mX6_dump d [zr (some 113), zi s, zi g, zi n] (zH2 h a f) Q := by
  have P2 : ∀ a f, zMk (zH2 h a f) := fun _ _ => P
  have P3 : ∀ a f x, zMk (zH2 (sI h 113 2 x) a f) := fun _ _ _ => P
  have b0 := (zIgd v).1
  have b1 := (zIgd v).2.1
  have b2 := zIports v
  have b3 := zIships v
  have b4 := zIrule v
  have e7 : 146 + 15 * s + 7 + g = 153 + 15 * s + g := by omega
  by_cases hc : oDeal a s g n
  · have hd := hc
    unfold oDeal at hc
    simp (disch := (first | (simp only [gK_sI, gK_sJ, gK_sR, gK_sIA, gK_sJA, gR_sI, gR_sJ, gR_sIA, Nat.reduceLeDiff, Nat.reduceEqDiff, Nat.reduceLT, Int.reduceLE, Int.reduceLT, Int.reduceEq, zWt_i, zWt_l, zWt_r, zWt_n, zH2_gK, zH2_mk, P, zMkk P, zMr0 P, zMk0 P] <;> omega) | omega | fail)) only [if_pos, if_neg, wI_id, zLc_lt, zLc_gt, zLc_eq, zLc_le, zLc_ge, Int.reduceEq, Int.reduceLE, Int.reduceLT, Int.reduceNeg, Int.reduceAdd, Int.reduceMul, Int.reduceSub, not_true_eq_false, not_false_eq_true, reduceIte, zPo_v, zPo_n, zPo_t, zKl_i, zKl_r, zKl_n, zKl_l, gK_sI, gK_sJ, gK_sR, gK_sIA, gK_sJA, gR_sI, gR_sJ, gJ_sI, gI_sJ, gI_sR, gJ_sR, gR_sIA, gJ_sIA, Nat.reduceLeDiff, Nat.reduceEqDiff, and_self, and_true, true_and, and_false, false_and, eX6_dump_0, eX6_dump_1, eX6_dump_2, eX6_dump_3, eX6_dump_4, eX6_dump_7, eX6_dump_10, eX6_dump_11, eX6_dump_12, eX6_dump_15, eX6_dump_18, eX6_dump_19, eX6_dump_20, eX6_dump_21, eX6_dump_22, eX6_dump_25, eX6_dump_28, eX6_dump_29, eX6_dump_30, eX6_dump_33, eX6_dump_34, eX6_dump_35, eX6_dump_36, eX6_dump_39, eX6_dump_40, eX6_dump_43, eX6_dump_46, eX6_dump_47, eX6_dump_49, eX6_dump_52, eX6_dump_in, zH2_gK, zH2_gR, zH2_at, zH2_sI, zU_ne, P, zMkk P, zMr0 P, zMk0 P, cM_isDeal (P2 _ _)]
    refine kM_dumps P v hc.1.1 hc.1.2 hc.2.1.1 (by omega) hc.2.2.1 hc.2.2.2 (fun ok => ?_) (fun ok => ?_)
    · have e : oDump a s g n = (fDump a s g n, fDump a s g n (153 + 15 * s + g), 0) := by
        unfold oDump
        rw [if_pos hd, if_pos ok]
      simp (disch := (first | (simp only [gK_sI, gK_sJ, gK_sR, gK_sIA, gK_sJA, gR_sI, gR_sJ, gR_sIA, Nat.reduceLeDiff, Nat.reduceEqDiff, Nat.reduceLT, Int.reduceLE, Int.reduceLT, Int.reduceEq, zWt_i, zWt_l, zWt_r, zWt_n, zH2_gK, zH2_mk, P, zMkk P, zMr0 P, zMk0 P] <;> omega) | omega | fail)) only [if_pos, if_neg, wI_id, zLc_lt, zLc_gt, zLc_eq, zLc_le, zLc_ge, Int.reduceEq, Int.reduceLE, Int.reduceLT, Int.reduceNeg, Int.reduceAdd, Int.reduceMul, Int.reduceSub, not_true_eq_false, not_false_eq_true, reduceIte, zPo_v, zPo_n, zPo_t, zKl_i, zKl_r, zKl_n, zKl_l, gK_sI, gK_sJ, gK_sR, gK_sIA, gK_sJA, gR_sI, gR_sJ, gJ_sI, gI_sJ, gI_sR, gJ_sR, gR_sIA, gJ_sIA, Nat.reduceLeDiff, Nat.reduceEqDiff, and_self, and_true, true_and, and_false, false_and, eX6_dump_0, eX6_dump_1, eX6_dump_2, eX6_dump_3, eX6_dump_4, eX6_dump_7, eX6_dump_10, eX6_dump_11, eX6_dump_12, eX6_dump_15, eX6_dump_18, eX6_dump_19, eX6_dump_20, eX6_dump_21, eX6_dump_22, eX6_dump_25, eX6_dump_28, eX6_dump_29, eX6_dump_30, eX6_dump_33, eX6_dump_34, eX6_dump_35, eX6_dump_36, eX6_dump_39, eX6_dump_40, eX6_dump_43, eX6_dump_46, eX6_dump_47, eX6_dump_49, eX6_dump_52, eX6_dump_in, zH2_gK, zH2_gR, zH2_at, zH2_sI, zU_ne, P, zMkk P, zMr0 P, zMk0 P, cM_loadRow, e7, cM_gives (P2 _ _), zH2_sIne]
      exact zGm hQ e _
    · have e : oDump a s g n = (a, -1, 7) := by
        unfold oDump
        rw [if_pos hd, if_neg ok]
      simp (disch := (first | (simp only [gK_sI, gK_sJ, gK_sR, gK_sIA, gK_sJA, gR_sI, gR_sJ, gR_sIA, Nat.reduceLeDiff, Nat.reduceEqDiff, Nat.reduceLT, Int.reduceLE, Int.reduceLT, Int.reduceEq, zWt_i, zWt_l, zWt_r, zWt_n, zH2_gK, zH2_mk, P, zMkk P, zMr0 P, zMk0 P] <;> omega) | omega | fail)) only [if_pos, if_neg, wI_id, zLc_lt, zLc_gt, zLc_eq, zLc_le, zLc_ge, Int.reduceEq, Int.reduceLE, Int.reduceLT, Int.reduceNeg, Int.reduceAdd, Int.reduceMul, Int.reduceSub, not_true_eq_false, not_false_eq_true, reduceIte, zPo_v, zPo_n, zPo_t, zKl_i, zKl_r, zKl_n, zKl_l, gK_sI, gK_sJ, gK_sR, gK_sIA, gK_sJA, gR_sI, gR_sJ, gJ_sI, gI_sJ, gI_sR, gJ_sR, gR_sIA, gJ_sIA, Nat.reduceLeDiff, Nat.reduceEqDiff, and_self, and_true, true_and, and_false, false_and, eX6_dump_0, eX6_dump_1, eX6_dump_2, eX6_dump_3, eX6_dump_4, eX6_dump_7, eX6_dump_10, eX6_dump_11, eX6_dump_12, eX6_dump_15, eX6_dump_18, eX6_dump_19, eX6_dump_20, eX6_dump_21, eX6_dump_22, eX6_dump_25, eX6_dump_28, eX6_dump_29, eX6_dump_30, eX6_dump_33, eX6_dump_34, eX6_dump_35, eX6_dump_36, eX6_dump_39, eX6_dump_40, eX6_dump_43, eX6_dump_46, eX6_dump_47, eX6_dump_49, eX6_dump_52, eX6_dump_in, zH2_gK, zH2_gR, zH2_at, zH2_sI, zU_ne, P, zMkk P, zMr0 P, zMk0 P, cM_refuse (P2 _ _), zH2_sIne]
      exact zGm hQ e _
  · have e : oDump a s g n = (a, -1, 1) := if_neg hc
    unfold oDeal at hc
    have h9 := zGm hQ e f
    simp (disch := (first | (simp only [gK_sI, gK_sJ, gK_sR, gK_sIA, gK_sJA, gR_sI, gR_sJ, gR_sIA, Nat.reduceLeDiff, Nat.reduceEqDiff, Nat.reduceLT, Int.reduceLE, Int.reduceLT, Int.reduceEq, zWt_i, zWt_l, zWt_r, zWt_n, zH2_gK, zH2_mk, P, zMkk P, zMr0 P, zMk0 P] <;> omega) | omega | fail)) only [wI_id, zLc_lt, zLc_gt, zLc_eq, zLc_le, zLc_ge, Int.reduceEq, Int.reduceLE, Int.reduceLT, Int.reduceNeg, Int.reduceAdd, Int.reduceMul, Int.reduceSub, not_true_eq_false, not_false_eq_true, reduceIte, zPo_v, zPo_n, zPo_t, zKl_i, zKl_r, zKl_n, zKl_l, gK_sI, gK_sJ, gK_sR, gK_sIA, gK_sJA, gR_sI, gR_sJ, gJ_sI, gI_sJ, gI_sR, gJ_sR, gR_sIA, gJ_sIA, Nat.reduceLeDiff, Nat.reduceEqDiff, and_self, and_true, true_and, and_false, false_and, eX6_dump_0, eX6_dump_1, eX6_dump_2, eX6_dump_3, eX6_dump_4, eX6_dump_7, eX6_dump_10, eX6_dump_11, eX6_dump_12, eX6_dump_15, eX6_dump_18, eX6_dump_19, eX6_dump_20, eX6_dump_21, eX6_dump_22, eX6_dump_25, eX6_dump_28, eX6_dump_29, eX6_dump_30, eX6_dump_33, eX6_dump_34, eX6_dump_35, eX6_dump_36, eX6_dump_39, eX6_dump_40, eX6_dump_43, eX6_dump_46, eX6_dump_47, eX6_dump_49, eX6_dump_52, eX6_dump_in, zH2_gK, zH2_gR, zH2_at, zH2_sI, zU_ne, P, zMkk P, zMr0 P, zMk0 P, cM_isDeal (P2 _ _), cM_refuse (P2 _ _), zH2_sIne]
    (repeat' split) <;> first | exact h9 | (exfalso; omega)
theorem oX_dump {s g n : Int} (K : zXk h) (v : zIv a) (P : zPw h 75 a nm) (hQ : ∀ h', zPw h' 75 (oDump a s g n).1 nm → zSx h h' → gI h' 65 7 = (oDump a s g n).2.2 → Q (zRv (zi (oDump a s g n).2.1) h')) : zCm mX0_dump d [zr (some 65), zi s, zi g, zi n] h Q := by
  have W := P.2.1
  have e2 : ∀ x, zXk (sI h 65 7 x) := fun _ => K
  have P9 : ∀ x, zPw (sI h 65 7 x) 75 a nm := fun x => zPw_st v P K
  have S9 : ∀ x, zSx h (sI h 65 7 x) := fun x => zSx_st zSx_rf
  have b0 := (zIgd v).1
  have b1 := (zIgd v).2.1
  have b2 := zIports v
  have b3 := zIships v
  have b4 := zIrule v
  by_cases hc : oDeal a s g n
  · have hd := hc
    unfold oDeal at hc
    simp (disch := (first | (simp only [gK_sI, gK_sJ, gK_sR, gK_sIA, gK_sJA, gR_sI, gR_sJ, gR_sIA, Nat.reduceLeDiff, Nat.reduceEqDiff, Nat.reduceLT, Int.reduceLE, Int.reduceLT, Int.reduceEq, zWt_i, zWt_l, zWt_r, zWt_n, K, zXkk K, zXh0 K, W, zWkk W, zWr19 W, zWk19 W, e2] <;> omega) | omega | fail)) only [if_pos, if_neg, wI_id, zLc_lt, zLc_gt, zLc_eq, zLc_le, zLc_ge, Int.reduceEq, Int.reduceLE, Int.reduceLT, Int.reduceNeg, Int.reduceAdd, Int.reduceMul, Int.reduceSub, not_true_eq_false, not_false_eq_true, reduceIte, zPo_v, zPo_n, zPo_t, zKl_i, zKl_r, zKl_n, zKl_l, gK_sI, gK_sJ, gK_sR, gK_sIA, gK_sJA, gR_sI, gR_sJ, gJ_sI, gI_sJ, gI_sR, gJ_sR, gR_sIA, gJ_sIA, Nat.reduceLeDiff, Nat.reduceEqDiff, and_self, and_true, true_and, and_false, false_and, eX0_dump_0, eX0_dump_1, eX0_dump_2, eX0_dump_3, eX0_dump_4, eX0_dump_5, eX0_dump_8, eX0_dump_11, eX0_dump_12, eX0_dump_15, eX0_dump_16, eX0_dump_19, eX0_dump_20, eX0_dump_21, eX0_dump_22, eX0_dump_25, eX0_dump_28, eX0_dump_29, eX0_dump_32, eX0_dump_34, eX0_dump_37, eX0_dump_38, eX0_dump_41, eX0_dump_44, eX0_dump_45, eX0_dump_48, eX0_dump_49, eX0_dump_52, eX0_dump_55, eX0_dump_57, eX0_dump_58, eX0_dump_59, eX0_dump_60, eX0_dump_61, eX0_dump_62, tX0_dump, eX0_dump_in, K, zXkk K, zXh0 K, W, zWkk W, zWr19 W, zWk19 W, kX0_isLoad K v P, kX0_at]
    refine kX_dumps v P hc.1.1 hc.1.2 hc.2.1.1 (by omega) hc.2.2.1 hc.2.2.2 (fun ok h1 P1 S1 => ?_) (fun ok => ?_)
    · have e : oDump a s g n = (fDump a s g n, fDump a s g n (153 + 15 * s + g), 0) := by
        unfold oDump
        rw [if_pos hd, if_pos ok]
      have K1 : zXk h1 := zXk_w S1 K
      have W1 := P1.2.1
      have e3 : ∀ x, zXk (sI h1 65 7 x) := fun _ => K1
      have e1 : gI h1 89 (8 * s + g) = fDump a s g n (153 + 15 * s + g) := P1.2.2.1.2.2.2.2.2.2.2.2.2.2.2 s g (by omega) (by omega) (by omega) (by omega)
      simp (disch := (first | (simp only [gK_sI, gK_sJ, gK_sR, gK_sIA, gK_sJA, gR_sI, gR_sJ, gR_sIA, Nat.reduceLeDiff, Nat.reduceEqDiff, Nat.reduceLT, Int.reduceLE, Int.reduceLT, Int.reduceEq, zWt_i, zWt_l, zWt_r, zWt_n, K1, zXkk K1, zXh0 K1, W1, zWkk W1, zWr19 W1, zWk19 W1, e3] <;> omega) | omega | fail)) only [if_pos, if_neg, wI_id, zLc_lt, zLc_gt, zLc_eq, zLc_le, zLc_ge, Int.reduceEq, Int.reduceLE, Int.reduceLT, Int.reduceNeg, Int.reduceAdd, Int.reduceMul, Int.reduceSub, not_true_eq_false, not_false_eq_true, reduceIte, zPo_v, zPo_n, zPo_t, zKl_i, zKl_r, zKl_n, zKl_l, gK_sI, gK_sJ, gK_sR, gK_sIA, gK_sJA, gR_sI, gR_sJ, gJ_sI, gI_sJ, gI_sR, gJ_sR, gR_sIA, gJ_sIA, Nat.reduceLeDiff, Nat.reduceEqDiff, and_self, and_true, true_and, and_false, false_and, eX0_dump_0, eX0_dump_1, eX0_dump_2, eX0_dump_3, eX0_dump_4, eX0_dump_5, eX0_dump_8, eX0_dump_11, eX0_dump_12, eX0_dump_15, eX0_dump_16, eX0_dump_19, eX0_dump_20, eX0_dump_21, eX0_dump_22, eX0_dump_25, eX0_dump_28, eX0_dump_29, eX0_dump_32, eX0_dump_34, eX0_dump_37, eX0_dump_38, eX0_dump_41, eX0_dump_44, eX0_dump_45, eX0_dump_48, eX0_dump_49, eX0_dump_52, eX0_dump_55, eX0_dump_57, eX0_dump_58, eX0_dump_59, eX0_dump_60, eX0_dump_61, eX0_dump_62, tX0_dump, eX0_dump_in, K1, zXkk K1, zXh0 K1, W1, zWkk W1, zWr19 W1, zWk19 W1, kX0_at, gI_sI_ne, gI_sI_eq, zU_eq, Nat.reduceAdd, e1]
      exact zGxs hQ K1 P1 (zSx_w S1) e
    · have e : oDump a s g n = (a, -1, 7) := by
        unfold oDump
        rw [if_pos hd, if_neg ok]
      simp (disch := (first | (simp only [gK_sI, gK_sJ, gK_sR, gK_sIA, gK_sJA, gR_sI, gR_sJ, gR_sIA, Nat.reduceLeDiff, Nat.reduceEqDiff, Nat.reduceLT, Int.reduceLE, Int.reduceLT, Int.reduceEq, zWt_i, zWt_l, zWt_r, zWt_n, K, zXkk K, zXh0 K, W, zWkk W, zWr19 W, zWk19 W, e2] <;> omega) | omega | fail)) only [if_pos, if_neg, wI_id, zLc_lt, zLc_gt, zLc_eq, zLc_le, zLc_ge, Int.reduceEq, Int.reduceLE, Int.reduceLT, Int.reduceNeg, Int.reduceAdd, Int.reduceMul, Int.reduceSub, not_true_eq_false, not_false_eq_true, reduceIte, zPo_v, zPo_n, zPo_t, zKl_i, zKl_r, zKl_n, zKl_l, gK_sI, gK_sJ, gK_sR, gK_sIA, gK_sJA, gR_sI, gR_sJ, gJ_sI, gI_sJ, gI_sR, gJ_sR, gR_sIA, gJ_sIA, Nat.reduceLeDiff, Nat.reduceEqDiff, and_self, and_true, true_and, and_false, false_and, eX0_dump_0, eX0_dump_1, eX0_dump_2, eX0_dump_3, eX0_dump_4, eX0_dump_5, eX0_dump_8, eX0_dump_11, eX0_dump_12, eX0_dump_15, eX0_dump_16, eX0_dump_19, eX0_dump_20, eX0_dump_21, eX0_dump_22, eX0_dump_25, eX0_dump_28, eX0_dump_29, eX0_dump_32, eX0_dump_34, eX0_dump_37, eX0_dump_38, eX0_dump_41, eX0_dump_44, eX0_dump_45, eX0_dump_48, eX0_dump_49, eX0_dump_52, eX0_dump_55, eX0_dump_57, eX0_dump_58, eX0_dump_59, eX0_dump_60, eX0_dump_61, eX0_dump_62, tX0_dump, eX0_dump_in, K, zXkk K, zXh0 K, W, zWkk W, zWr19 W, zWk19 W, kX0_at, gI_sI_ne, gI_sI_eq, zU_eq]
      exact zGxs hQ K P zSx_rf e
  · have e : oDump a s g n = (a, -1, 1) := if_neg hc
    have h9 := zGxs hQ K P zSx_rf e
    unfold oDeal at hc
    simp (disch := (first | (simp only [gK_sI, gK_sJ, gK_sR, gK_sIA, gK_sJA, gR_sI, gR_sJ, gR_sIA, Nat.reduceLeDiff, Nat.reduceEqDiff, Nat.reduceLT, Int.reduceLE, Int.reduceLT, Int.reduceEq, zWt_i, zWt_l, zWt_r, zWt_n, K, zXkk K, zXh0 K, W, zWkk W, zWr19 W, zWk19 W, e2] <;> omega) | omega | fail)) only [wI_id, zLc_lt, zLc_gt, zLc_eq, zLc_le, zLc_ge, Int.reduceEq, Int.reduceLE, Int.reduceLT, Int.reduceNeg, Int.reduceAdd, Int.reduceMul, Int.reduceSub, not_true_eq_false, not_false_eq_true, reduceIte, zPo_v, zPo_n, zPo_t, zKl_i, zKl_r, zKl_n, zKl_l, gK_sI, gK_sJ, gK_sR, gK_sIA, gK_sJA, gR_sI, gR_sJ, gJ_sI, gI_sJ, gI_sR, gJ_sR, gR_sIA, gJ_sIA, Nat.reduceLeDiff, Nat.reduceEqDiff, and_self, and_true, true_and, and_false, false_and, eX0_dump_0, eX0_dump_1, eX0_dump_2, eX0_dump_3, eX0_dump_4, eX0_dump_5, eX0_dump_8, eX0_dump_11, eX0_dump_12, eX0_dump_15, eX0_dump_16, eX0_dump_19, eX0_dump_20, eX0_dump_21, eX0_dump_22, eX0_dump_25, eX0_dump_28, eX0_dump_29, eX0_dump_32, eX0_dump_34, eX0_dump_37, eX0_dump_38, eX0_dump_41, eX0_dump_44, eX0_dump_45, eX0_dump_48, eX0_dump_49, eX0_dump_52, eX0_dump_55, eX0_dump_57, eX0_dump_58, eX0_dump_59, eX0_dump_60, eX0_dump_61, eX0_dump_62, tX0_dump, eX0_dump_in, K, zXkk K, zXh0 K, W, zWkk W, zWr19 W, zWk19 W, kX0_isLoad K v P, gI_sI_ne, gI_sI_eq, zU_eq]
    (repeat' split) <;> first | exact h9 | (exfalso; omega)
theorem oM_sail {s p : Int} (P : zMk h) (v : zIv a) (hQ : ∀ k9, Q (zRv (zi (oSail a s p).2.1) (zH2 (sI h 113 2 (oSail a s p).2.2) (oSail a s p).1 k9))) : zCm mX6_sail d [zr (some 113), zi s, zi p] (zH2 h a f) Q := by
  have P2 : ∀ a f, zMk (zH2 h a f) := fun _ _ => P
  have P3 : ∀ a f x, zMk (zH2 (sI h 113 2 x) a f) := fun _ _ _ => P
  have b0 := (zIgd v).1
  have b1 := (zIgd v).2.1
  have b2 := zIports v
  have b3 := zIships v
  have b4 := zIrule v
  have e7 : 146 + 15 * s + 2 = 148 + 15 * s := by omega
  by_cases hc : (0 ≤ s ∧ s < a 3) ∧ (0 ≤ p ∧ p < a 2)
  · simp (disch := (first | (simp only [gK_sI, gK_sJ, gK_sR, gK_sIA, gK_sJA, gR_sI, gR_sJ, gR_sIA, Nat.reduceLeDiff, Nat.reduceEqDiff, Nat.reduceLT, Int.reduceLE, Int.reduceLT, Int.reduceEq, zWt_i, zWt_l, zWt_r, zWt_n, zH2_gK, zH2_mk, P, zMkk P] <;> omega) | omega | fail)) only [if_pos, if_neg, wI_id, zLc_lt, zLc_gt, zLc_eq, zLc_le, zLc_ge, Int.reduceEq, Int.reduceLE, Int.reduceLT, Int.reduceNeg, Int.reduceAdd, Int.reduceMul, Int.reduceSub, not_true_eq_false, not_false_eq_true, reduceIte, zPo_v, zPo_n, zPo_t, zKl_i, zKl_r, zKl_n, zKl_l, gK_sI, gK_sJ, gK_sR, gK_sIA, gK_sJA, gR_sI, gR_sJ, gJ_sI, gI_sJ, gI_sR, gJ_sR, gR_sIA, gJ_sIA, Nat.reduceLeDiff, Nat.reduceEqDiff, and_self, and_true, true_and, and_false, false_and, eX6_sail_0, eX6_sail_1, eX6_sail_2, eX6_sail_5, eX6_sail_8, eX6_sail_9, eX6_sail_10, eX6_sail_13, eX6_sail_16, eX6_sail_17, eX6_sail_18, eX6_sail_21, eX6_sail_24, eX6_sail_25, eX6_sail_26, eX6_sail_27, eX6_sail_30, eX6_sail_33, eX6_sail_34, eX6_sail_35, eX6_sail_36, eX6_sail_37, eX6_sail_40, eX6_sail_43, eX6_sail_46, eX6_sail_47, eX6_sail_49, eX6_sail_52, eX6_sail_in, zH2_gK, zH2_gR, zH2_at, zH2_sI, zU_ne, P, zMkk P, cM_isShip (P2 _ _), cM_isPort (P2 _ _)]
    refine kM_sails P v hc.1.1 hc.1.2 hc.2.1 (by omega) (fun ok => ?_) (fun ok => ?_)
    · have e : oSail a s p = (fSail a s p, fSail a s p (148 + 15 * s), 0) := by
        unfold oSail
        rw [if_pos hc, if_pos ok]
      simp (disch := (first | (simp only [gK_sI, gK_sJ, gK_sR, gK_sIA, gK_sJA, gR_sI, gR_sJ, gR_sIA, Nat.reduceLeDiff, Nat.reduceEqDiff, Nat.reduceLT, Int.reduceLE, Int.reduceLT, Int.reduceEq, zWt_i, zWt_l, zWt_r, zWt_n, zH2_gK, zH2_mk, P, zMkk P] <;> omega) | omega | fail)) only [if_pos, if_neg, wI_id, zLc_lt, zLc_gt, zLc_eq, zLc_le, zLc_ge, Int.reduceEq, Int.reduceLE, Int.reduceLT, Int.reduceNeg, Int.reduceAdd, Int.reduceMul, Int.reduceSub, not_true_eq_false, not_false_eq_true, reduceIte, zPo_v, zPo_n, zPo_t, zKl_i, zKl_r, zKl_n, zKl_l, gK_sI, gK_sJ, gK_sR, gK_sIA, gK_sJA, gR_sI, gR_sJ, gJ_sI, gI_sJ, gI_sR, gJ_sR, gR_sIA, gJ_sIA, Nat.reduceLeDiff, Nat.reduceEqDiff, and_self, and_true, true_and, and_false, false_and, eX6_sail_0, eX6_sail_1, eX6_sail_2, eX6_sail_5, eX6_sail_8, eX6_sail_9, eX6_sail_10, eX6_sail_13, eX6_sail_16, eX6_sail_17, eX6_sail_18, eX6_sail_21, eX6_sail_24, eX6_sail_25, eX6_sail_26, eX6_sail_27, eX6_sail_30, eX6_sail_33, eX6_sail_34, eX6_sail_35, eX6_sail_36, eX6_sail_37, eX6_sail_40, eX6_sail_43, eX6_sail_46, eX6_sail_47, eX6_sail_49, eX6_sail_52, eX6_sail_in, zH2_gK, zH2_gR, zH2_at, zH2_sI, zU_ne, P, zMkk P, kM_shipOf P, e7, cM_gives (P2 _ _), zH2_sIne]
      exact zGm hQ e _
    · have e : oSail a s p = (a, -1, 7) := by
        unfold oSail
        rw [if_pos hc, if_neg ok]
      simp (disch := (first | (simp only [gK_sI, gK_sJ, gK_sR, gK_sIA, gK_sJA, gR_sI, gR_sJ, gR_sIA, Nat.reduceLeDiff, Nat.reduceEqDiff, Nat.reduceLT, Int.reduceLE, Int.reduceLT, Int.reduceEq, zWt_i, zWt_l, zWt_r, zWt_n, zH2_gK, zH2_mk, P, zMkk P] <;> omega) | omega | fail)) only [if_pos, if_neg, wI_id, zLc_lt, zLc_gt, zLc_eq, zLc_le, zLc_ge, Int.reduceEq, Int.reduceLE, Int.reduceLT, Int.reduceNeg, Int.reduceAdd, Int.reduceMul, Int.reduceSub, not_true_eq_false, not_false_eq_true, reduceIte, zPo_v, zPo_n, zPo_t, zKl_i, zKl_r, zKl_n, zKl_l, gK_sI, gK_sJ, gK_sR, gK_sIA, gK_sJA, gR_sI, gR_sJ, gJ_sI, gI_sJ, gI_sR, gJ_sR, gR_sIA, gJ_sIA, Nat.reduceLeDiff, Nat.reduceEqDiff, and_self, and_true, true_and, and_false, false_and, eX6_sail_0, eX6_sail_1, eX6_sail_2, eX6_sail_5, eX6_sail_8, eX6_sail_9, eX6_sail_10, eX6_sail_13, eX6_sail_16, eX6_sail_17, eX6_sail_18, eX6_sail_21, eX6_sail_24, eX6_sail_25, eX6_sail_26, eX6_sail_27, eX6_sail_30, eX6_sail_33, eX6_sail_34, eX6_sail_35, eX6_sail_36, eX6_sail_37, eX6_sail_40, eX6_sail_43, eX6_sail_46, eX6_sail_47, eX6_sail_49, eX6_sail_52, eX6_sail_in, zH2_gK, zH2_gR, zH2_at, zH2_sI, zU_ne, P, zMkk P, cM_refuse (P2 _ _), zH2_sIne]
      exact zGm hQ e _
  · have e : oSail a s p = (a, -1, 1) := if_neg hc
    have h9 := zGm hQ e f
    simp (disch := (first | (simp only [gK_sI, gK_sJ, gK_sR, gK_sIA, gK_sJA, gR_sI, gR_sJ, gR_sIA, Nat.reduceLeDiff, Nat.reduceEqDiff, Nat.reduceLT, Int.reduceLE, Int.reduceLT, Int.reduceEq, zWt_i, zWt_l, zWt_r, zWt_n, zH2_gK, zH2_mk, P, zMkk P] <;> omega) | omega | fail)) only [wI_id, zLc_lt, zLc_gt, zLc_eq, zLc_le, zLc_ge, Int.reduceEq, Int.reduceLE, Int.reduceLT, Int.reduceNeg, Int.reduceAdd, Int.reduceMul, Int.reduceSub, not_true_eq_false, not_false_eq_true, reduceIte, zPo_v, zPo_n, zPo_t, zKl_i, zKl_r, zKl_n, zKl_l, gK_sI, gK_sJ, gK_sR, gK_sIA, gK_sJA, gR_sI, gR_sJ, gJ_sI, gI_sJ, gI_sR, gJ_sR, gR_sIA, gJ_sIA, Nat.reduceLeDiff, Nat.reduceEqDiff, and_self, and_true, true_and, and_false, false_and, eX6_sail_0, eX6_sail_1, eX6_sail_2, eX6_sail_5, eX6_sail_8, eX6_sail_9, eX6_sail_10, eX6_sail_13, eX6_sail_16, eX6_sail_17, eX6_sail_18, eX6_sail_21, eX6_sail_24, eX6_sail_25, eX6_sail_26, eX6_sail_27, eX6_sail_30, eX6_sail_33, eX6_sail_34, eX6_sail_35, eX6_sail_36, eX6_sail_37, eX6_sail_40, eX6_sail_43, eX6_sail_46, eX6_sail_47, eX6_sail_49, eX6_sail_52, eX6_sail_in, zH2_gK, zH2_gR, zH2_at, zH2_sI, zU_ne, P, zMkk P, cM_isShip (P2 _ _), cM_isPort (P2 _ _), cM_refuse (P2 _ _), zH2_sIne]
    (repeat' split) <;> first | exact h9 | (exfalso; omega)
theorem oX_sail {s p : Int} (K : zXk h) (v : zIv a) (P : zPw h 75 a nm) (hQ : ∀ h', zPw h' 75 (oSail a s p).1 nm → zSx h h' → gI h' 65 7 = (oSail a s p).2.2 → Q (zRv (zi (oSail a s p).2.1) h')) : zCm mX0_sail d [zr (some 65), zi s, zi p] h Q := by
  have W := P.2.1
  have e2 : ∀ x, zXk (sI h 65 7 x) := fun _ => K
  have P9 : ∀ x, zPw (sI h 65 7 x) 75 a nm := fun x => zPw_st v P K
  have S9 : ∀ x, zSx h (sI h 65 7 x) := fun x => zSx_st zSx_rf
  have b0 := (zIgd v).1
  have b1 := (zIgd v).2.1
  have b2 := zIports v
  have b3 := zIships v
  have b4 := zIrule v
  by_cases hc : (0 ≤ s ∧ s < a 3) ∧ (0 ≤ p ∧ p < a 2)
  · simp (disch := (first | (simp only [gK_sI, gK_sJ, gK_sR, gK_sIA, gK_sJA, gR_sI, gR_sJ, gR_sIA, Nat.reduceLeDiff, Nat.reduceEqDiff, Nat.reduceLT, Int.reduceLE, Int.reduceLT, Int.reduceEq, zWt_i, zWt_l, zWt_r, zWt_n, K, zXkk K, zXh0 K, W, zWkk W, zWr15 W, zWk15 W, e2] <;> omega) | omega | fail)) only [if_pos, if_neg, wI_id, zLc_lt, zLc_gt, zLc_eq, zLc_le, zLc_ge, Int.reduceEq, Int.reduceLE, Int.reduceLT, Int.reduceNeg, Int.reduceAdd, Int.reduceMul, Int.reduceSub, not_true_eq_false, not_false_eq_true, reduceIte, zPo_v, zPo_n, zPo_t, zKl_i, zKl_r, zKl_n, zKl_l, gK_sI, gK_sJ, gK_sR, gK_sIA, gK_sJA, gR_sI, gR_sJ, gJ_sI, gI_sJ, gI_sR, gJ_sR, gR_sIA, gJ_sIA, Nat.reduceLeDiff, Nat.reduceEqDiff, and_self, and_true, true_and, and_false, false_and, eX0_sail_0, eX0_sail_1, eX0_sail_2, eX0_sail_3, eX0_sail_6, eX0_sail_9, eX0_sail_10, eX0_sail_11, eX0_sail_14, eX0_sail_17, eX0_sail_18, eX0_sail_21, eX0_sail_22, eX0_sail_25, eX0_sail_26, eX0_sail_27, eX0_sail_30, eX0_sail_33, eX0_sail_34, eX0_sail_37, eX0_sail_39, eX0_sail_42, eX0_sail_43, eX0_sail_46, eX0_sail_49, eX0_sail_50, eX0_sail_53, eX0_sail_54, eX0_sail_57, eX0_sail_60, eX0_sail_61, eX0_sail_62, tX0_sail, eX0_sail_in, K, zXkk K, zXh0 K, W, zWkk W, zWr15 W, zWk15 W, kX0_isShip K v P, kX0_isPort K v P, kX0_at]
    refine kX_sails v P hc.1.1 hc.1.2 hc.2.1 (by omega) (fun ok h1 P1 S1 => ?_) (fun ok => ?_)
    · have e : oSail a s p = (fSail a s p, fSail a s p (148 + 15 * s), 0) := by
        unfold oSail
        rw [if_pos hc, if_pos ok]
      have K1 : zXk h1 := zXk_w S1 K
      have W1 := P1.2.1
      have e3 : ∀ x, zXk (sI h1 65 7 x) := fun _ => K1
      have e1 : gI h1 85 s = fSail a s p (148 + 15 * s) := (P1.2.2.1.2.2.2.2.2.2.2.2.2.1 s (by omega) (by omega)).1
      simp (disch := (first | (simp only [gK_sI, gK_sJ, gK_sR, gK_sIA, gK_sJA, gR_sI, gR_sJ, gR_sIA, Nat.reduceLeDiff, Nat.reduceEqDiff, Nat.reduceLT, Int.reduceLE, Int.reduceLT, Int.reduceEq, zWt_i, zWt_l, zWt_r, zWt_n, K1, zXkk K1, zXh0 K1, W1, zWkk W1, zWr15 W1, zWk15 W1, e3] <;> omega) | omega | fail)) only [if_pos, if_neg, wI_id, zLc_lt, zLc_gt, zLc_eq, zLc_le, zLc_ge, Int.reduceEq, Int.reduceLE, Int.reduceLT, Int.reduceNeg, Int.reduceAdd, Int.reduceMul, Int.reduceSub, not_true_eq_false, not_false_eq_true, reduceIte, zPo_v, zPo_n, zPo_t, zKl_i, zKl_r, zKl_n, zKl_l, gK_sI, gK_sJ, gK_sR, gK_sIA, gK_sJA, gR_sI, gR_sJ, gJ_sI, gI_sJ, gI_sR, gJ_sR, gR_sIA, gJ_sIA, Nat.reduceLeDiff, Nat.reduceEqDiff, and_self, and_true, true_and, and_false, false_and, eX0_sail_0, eX0_sail_1, eX0_sail_2, eX0_sail_3, eX0_sail_6, eX0_sail_9, eX0_sail_10, eX0_sail_11, eX0_sail_14, eX0_sail_17, eX0_sail_18, eX0_sail_21, eX0_sail_22, eX0_sail_25, eX0_sail_26, eX0_sail_27, eX0_sail_30, eX0_sail_33, eX0_sail_34, eX0_sail_37, eX0_sail_39, eX0_sail_42, eX0_sail_43, eX0_sail_46, eX0_sail_49, eX0_sail_50, eX0_sail_53, eX0_sail_54, eX0_sail_57, eX0_sail_60, eX0_sail_61, eX0_sail_62, tX0_sail, eX0_sail_in, K1, zXkk K1, zXh0 K1, W1, zWkk W1, zWr15 W1, zWk15 W1, kX0_at, gI_sI_ne, gI_sI_eq, zU_eq, Nat.reduceAdd, e1]
      exact zGxs hQ K1 P1 (zSx_w S1) e
    · have e : oSail a s p = (a, -1, 7) := by
        unfold oSail
        rw [if_pos hc, if_neg ok]
      simp (disch := (first | (simp only [gK_sI, gK_sJ, gK_sR, gK_sIA, gK_sJA, gR_sI, gR_sJ, gR_sIA, Nat.reduceLeDiff, Nat.reduceEqDiff, Nat.reduceLT, Int.reduceLE, Int.reduceLT, Int.reduceEq, zWt_i, zWt_l, zWt_r, zWt_n, K, zXkk K, zXh0 K, W, zWkk W, zWr15 W, zWk15 W, e2] <;> omega) | omega | fail)) only [if_pos, if_neg, wI_id, zLc_lt, zLc_gt, zLc_eq, zLc_le, zLc_ge, Int.reduceEq, Int.reduceLE, Int.reduceLT, Int.reduceNeg, Int.reduceAdd, Int.reduceMul, Int.reduceSub, not_true_eq_false, not_false_eq_true, reduceIte, zPo_v, zPo_n, zPo_t, zKl_i, zKl_r, zKl_n, zKl_l, gK_sI, gK_sJ, gK_sR, gK_sIA, gK_sJA, gR_sI, gR_sJ, gJ_sI, gI_sJ, gI_sR, gJ_sR, gR_sIA, gJ_sIA, Nat.reduceLeDiff, Nat.reduceEqDiff, and_self, and_true, true_and, and_false, false_and, eX0_sail_0, eX0_sail_1, eX0_sail_2, eX0_sail_3, eX0_sail_6, eX0_sail_9, eX0_sail_10, eX0_sail_11, eX0_sail_14, eX0_sail_17, eX0_sail_18, eX0_sail_21, eX0_sail_22, eX0_sail_25, eX0_sail_26, eX0_sail_27, eX0_sail_30, eX0_sail_33, eX0_sail_34, eX0_sail_37, eX0_sail_39, eX0_sail_42, eX0_sail_43, eX0_sail_46, eX0_sail_49, eX0_sail_50, eX0_sail_53, eX0_sail_54, eX0_sail_57, eX0_sail_60, eX0_sail_61, eX0_sail_62, tX0_sail, eX0_sail_in, K, zXkk K, zXh0 K, W, zWkk W, zWr15 W, zWk15 W, kX0_at, gI_sI_ne, gI_sI_eq, zU_eq]
      exact zGxs hQ K P zSx_rf e
  · have e : oSail a s p = (a, -1, 1) := if_neg hc
    have h9 := zGxs hQ K P zSx_rf e
    simp (disch := (first | (simp only [gK_sI, gK_sJ, gK_sR, gK_sIA, gK_sJA, gR_sI, gR_sJ, gR_sIA, Nat.reduceLeDiff, Nat.reduceEqDiff, Nat.reduceLT, Int.reduceLE, Int.reduceLT, Int.reduceEq, zWt_i, zWt_l, zWt_r, zWt_n, K, zXkk K, zXh0 K, W, zWkk W, zWr15 W, zWk15 W, e2] <;> omega) | omega | fail)) only [wI_id, zLc_lt, zLc_gt, zLc_eq, zLc_le, zLc_ge, Int.reduceEq, Int.reduceLE, Int.reduceLT, Int.reduceNeg, Int.reduceAdd, Int.reduceMul, Int.reduceSub, not_true_eq_false, not_false_eq_true, reduceIte, zPo_v, zPo_n, zPo_t, zKl_i, zKl_r, zKl_n, zKl_l, gK_sI, gK_sJ, gK_sR, gK_sIA, gK_sJA, gR_sI, gR_sJ, gJ_sI, gI_sJ, gI_sR, gJ_sR, gR_sIA, gJ_sIA, Nat.reduceLeDiff, Nat.reduceEqDiff, and_self, and_true, true_and, and_false, false_and, eX0_sail_0, eX0_sail_1, eX0_sail_2, eX0_sail_3, eX0_sail_6, eX0_sail_9, eX0_sail_10, eX0_sail_11, eX0_sail_14, eX0_sail_17, eX0_sail_18, eX0_sail_21, eX0_sail_22, eX0_sail_25, eX0_sail_26, eX0_sail_27, eX0_sail_30, eX0_sail_33, eX0_sail_34, eX0_sail_37, eX0_sail_39, eX0_sail_42, eX0_sail_43, eX0_sail_46, eX0_sail_49, eX0_sail_50, eX0_sail_53, eX0_sail_54, eX0_sail_57, eX0_sail_60, eX0_sail_61, eX0_sail_62, tX0_sail, eX0_sail_in, K, zXkk K, zXh0 K, W, zWkk W, zWr15 W, zWk15 W, kX0_isShip K v P, kX0_isPort K v P, gI_sI_ne, gI_sI_eq, zU_eq]
    (repeat' split) <;> first | exact h9 | (exfalso; omega)
theorem oM_rule {y : Int} (P : zMk h) (v : zIv a) (hQ : ∀ k9, Q (zRv (zi (oRule a y).2.1) (zH2 (sI h 113 2 (oRule a y).2.2) (oRule a y).1 k9))) : zCm mX6_rule d [zr (some 113), zi y] (zH2 h a f) Q := by
  have P2 : ∀ a f, zMk (zH2 h a f) := fun _ _ => P
  have P3 : ∀ a f x, zMk (zH2 (sI h 113 2 x) a f) := fun _ _ _ => P
  have b0 := (zIgd v).1
  have b1 := (zIgd v).2.1
  have b2 := zIports v
  have b3 := zIships v
  have b4 := zIrule v
  by_cases hc : 0 ≤ y ∧ y ≤ 2
  · have e : oRule a y = (zU a 4 y, 1, 0) := if_pos hc
    simp (disch := (first | (simp only [gK_sI, gK_sJ, gK_sR, gK_sIA, gK_sJA, gR_sI, gR_sJ, gR_sIA, Nat.reduceLeDiff, Nat.reduceEqDiff, Nat.reduceLT, Int.reduceLE, Int.reduceLT, Int.reduceEq, zWt_i, zWt_l, zWt_r, zWt_n, zH2_gK, zH2_mk, P, zMkk P, zMr0 P, zMk0 P] <;> omega) | omega | fail)) only [if_pos, if_neg, wI_id, zLc_lt, zLc_gt, zLc_eq, zLc_le, zLc_ge, Int.reduceEq, Int.reduceLE, Int.reduceLT, Int.reduceNeg, Int.reduceAdd, Int.reduceMul, Int.reduceSub, not_true_eq_false, not_false_eq_true, reduceIte, zPo_v, zPo_n, zPo_t, zKl_i, zKl_r, zKl_n, zKl_l, gK_sI, gK_sJ, gK_sR, gK_sIA, gK_sJA, gR_sI, gR_sJ, gJ_sI, gI_sJ, gI_sR, gJ_sR, gR_sIA, gJ_sIA, Nat.reduceLeDiff, Nat.reduceEqDiff, and_self, and_true, true_and, and_false, false_and, eX6_rule_0, eX6_rule_1, eX6_rule_4, eX6_rule_7, eX6_rule_8, eX6_rule_9, eX6_rule_12, eX6_rule_13, eX6_rule_14, eX6_rule_17, eX6_rule_18, eX6_rule_19, eX6_rule_20, eX6_rule_21, eX6_rule_22, eX6_rule_25, eX6_rule_in, zH2_gK, zH2_gR, zH2_at, zH2_sI, zU_ne, P, zMkk P, zMr0 P, zMk0 P, cM_isRule, zH2_sI, cM_is (P2 _ _), zH2_sIne]
    exact zGm hQ e _
  · have e : oRule a y = (a, 0, 1) := if_neg hc
    simp (disch := (first | (simp only [gK_sI, gK_sJ, gK_sR, gK_sIA, gK_sJA, gR_sI, gR_sJ, gR_sIA, Nat.reduceLeDiff, Nat.reduceEqDiff, Nat.reduceLT, Int.reduceLE, Int.reduceLT, Int.reduceEq, zWt_i, zWt_l, zWt_r, zWt_n, zH2_gK, zH2_mk, P, zMkk P, zMr0 P, zMk0 P] <;> omega) | omega | fail)) only [if_pos, if_neg, wI_id, zLc_lt, zLc_gt, zLc_eq, zLc_le, zLc_ge, Int.reduceEq, Int.reduceLE, Int.reduceLT, Int.reduceNeg, Int.reduceAdd, Int.reduceMul, Int.reduceSub, not_true_eq_false, not_false_eq_true, reduceIte, zPo_v, zPo_n, zPo_t, zKl_i, zKl_r, zKl_n, zKl_l, gK_sI, gK_sJ, gK_sR, gK_sIA, gK_sJA, gR_sI, gR_sJ, gJ_sI, gI_sJ, gI_sR, gJ_sR, gR_sIA, gJ_sIA, Nat.reduceLeDiff, Nat.reduceEqDiff, and_self, and_true, true_and, and_false, false_and, eX6_rule_0, eX6_rule_1, eX6_rule_4, eX6_rule_7, eX6_rule_8, eX6_rule_9, eX6_rule_12, eX6_rule_13, eX6_rule_14, eX6_rule_17, eX6_rule_18, eX6_rule_19, eX6_rule_20, eX6_rule_21, eX6_rule_22, eX6_rule_25, eX6_rule_in, zH2_gK, zH2_gR, zH2_at, zH2_sI, zU_ne, P, zMkk P, zMr0 P, zMk0 P, cM_isRule, cM_is (P2 _ _), zH2_sIne]
    exact zGm hQ e _
theorem oX_rule {y : Int} (K : zXk h) (v : zIv a) (P : zPw h 75 a nm) (hQ : ∀ h', zPw h' 75 (oRule a y).1 nm → zSx h h' → gI h' 65 7 = (oRule a y).2.2 → Q (zRv (zi (oRule a y).2.1) h')) : zCm mX0_rule d [zr (some 65), zi y] h Q := by
  have W := P.2.1
  have e2 : ∀ x, zXk (sI h 65 7 x) := fun _ => K
  have P9 : ∀ x, zPw (sI h 65 7 x) 75 a nm := fun x => zPw_st v P K
  have S9 : ∀ x, zSx h (sI h 65 7 x) := fun x => zSx_st zSx_rf
  have b0 := (zIgd v).1
  have b1 := (zIgd v).2.1
  have b2 := zIports v
  have b3 := zIships v
  have b4 := zIrule v
  by_cases hc : 0 ≤ y ∧ y ≤ 2
  · have e : oRule a y = (zU a 4 y, 1, 0) := if_pos hc
    simp (disch := (first | (simp only [gK_sI, gK_sJ, gK_sR, gK_sIA, gK_sJA, gR_sI, gR_sJ, gR_sIA, Nat.reduceLeDiff, Nat.reduceEqDiff, Nat.reduceLT, Int.reduceLE, Int.reduceLT, Int.reduceEq, zWt_i, zWt_l, zWt_r, zWt_n, K, zXkk K, zXh0 K, W, zWkk W, e2] <;> omega) | omega | fail)) only [if_pos, if_neg, wI_id, zLc_lt, zLc_gt, zLc_eq, zLc_le, zLc_ge, Int.reduceEq, Int.reduceLE, Int.reduceLT, Int.reduceNeg, Int.reduceAdd, Int.reduceMul, Int.reduceSub, not_true_eq_false, not_false_eq_true, reduceIte, zPo_v, zPo_n, zPo_t, zKl_i, zKl_r, zKl_n, zKl_l, gK_sI, gK_sJ, gK_sR, gK_sIA, gK_sJA, gR_sI, gR_sJ, gJ_sI, gI_sJ, gI_sR, gJ_sR, gR_sIA, gJ_sIA, Nat.reduceLeDiff, Nat.reduceEqDiff, and_self, and_true, true_and, and_false, false_and, eX0_rule_0, eX0_rule_1, eX0_rule_2, eX0_rule_5, eX0_rule_8, eX0_rule_9, eX0_rule_12, eX0_rule_13, eX0_rule_16, eX0_rule_17, eX0_rule_20, eX0_rule_23, eX0_rule_24, eX0_rule_27, eX0_rule_28, eX0_rule_31, eX0_rule_32, eX0_rule_35, eX0_rule_38, eX0_rule_39, eX0_rule_42, eX0_rule_43, tX0_rule, eX0_rule_in, K, zXkk K, zXh0 K, W, zWkk W, kX0_isRule, kX0_at, gI_sI_ne, gI_sI_eq, zU_eq]
    exact zGx hQ (zPw_rule v (P9 0)) (zSx_sI (S9 0) (by decide) (by decide)) (by rw [gI_sI_ne (by decide), gI_sI_eq, zU_eq]) e
  · have e : oRule a y = (a, 0, 1) := if_neg hc
    simp (disch := (first | (simp only [gK_sI, gK_sJ, gK_sR, gK_sIA, gK_sJA, gR_sI, gR_sJ, gR_sIA, Nat.reduceLeDiff, Nat.reduceEqDiff, Nat.reduceLT, Int.reduceLE, Int.reduceLT, Int.reduceEq, zWt_i, zWt_l, zWt_r, zWt_n, K, zXkk K, zXh0 K, W, zWkk W, e2] <;> omega) | omega | fail)) only [if_pos, if_neg, wI_id, zLc_lt, zLc_gt, zLc_eq, zLc_le, zLc_ge, Int.reduceEq, Int.reduceLE, Int.reduceLT, Int.reduceNeg, Int.reduceAdd, Int.reduceMul, Int.reduceSub, not_true_eq_false, not_false_eq_true, reduceIte, zPo_v, zPo_n, zPo_t, zKl_i, zKl_r, zKl_n, zKl_l, gK_sI, gK_sJ, gK_sR, gK_sIA, gK_sJA, gR_sI, gR_sJ, gJ_sI, gI_sJ, gI_sR, gJ_sR, gR_sIA, gJ_sIA, Nat.reduceLeDiff, Nat.reduceEqDiff, and_self, and_true, true_and, and_false, false_and, eX0_rule_0, eX0_rule_1, eX0_rule_2, eX0_rule_5, eX0_rule_8, eX0_rule_9, eX0_rule_12, eX0_rule_13, eX0_rule_16, eX0_rule_17, eX0_rule_20, eX0_rule_23, eX0_rule_24, eX0_rule_27, eX0_rule_28, eX0_rule_31, eX0_rule_32, eX0_rule_35, eX0_rule_38, eX0_rule_39, eX0_rule_42, eX0_rule_43, tX0_rule, eX0_rule_in, K, zXkk K, zXh0 K, W, zWkk W, kX0_isRule, kX0_at, gI_sI_ne, gI_sI_eq, zU_eq]
    exact zGxs hQ K P zSx_rf e
theorem oM_trade {p g x : Int} (P : zMk h) (v : zIv a) (hQ : ∀ k9, Q (zRv (zi (oTrade a p g x).2.1) (zH2 (sI h 113 2 (oTrade a p g x).2.2) (oTrade a p g x).1 k9))) : zCm mX6_trade d [zr (some 113), zi p, zi g, zi x] (zH2 h a f) Q := by
  have P2 : ∀ a f, zMk (zH2 h a f) := fun _ _ => P
  have P3 : ∀ a f x, zMk (zH2 (sI h 113 2 x) a f) := fun _ _ _ => P
  have b0 := (zIgd v).1
  have b1 := (zIgd v).2.1
  have b2 := zIports v
  have b3 := zIships v
  have b4 := zIrule v
  have e7 : 56 + 15 * p + 1 + g = 57 + 15 * p + g := by omega
  by_cases hc : (0 ≤ p ∧ p < a 2) ∧ (0 ≤ g ∧ g < a 1) ∧ (0 ≤ x ∧ x ≤ 99)
  · have e : oTrade a p g x = (zU a (57 + 15 * p + g) x, 1, 0) := if_pos hc
    simp (disch := (first | (simp only [gK_sI, gK_sJ, gK_sR, gK_sIA, gK_sJA, gR_sI, gR_sJ, gR_sIA, Nat.reduceLeDiff, Nat.reduceEqDiff, Nat.reduceLT, Int.reduceLE, Int.reduceLT, Int.reduceEq, zWt_i, zWt_l, zWt_r, zWt_n, zH2_gK, zH2_mk, P, zMkk P, zMr0 P, zMk0 P] <;> omega) | omega | fail)) only [if_pos, if_neg, wI_id, zLc_lt, zLc_gt, zLc_eq, zLc_le, zLc_ge, Int.reduceEq, Int.reduceLE, Int.reduceLT, Int.reduceNeg, Int.reduceAdd, Int.reduceMul, Int.reduceSub, not_true_eq_false, not_false_eq_true, reduceIte, zPo_v, zPo_n, zPo_t, zKl_i, zKl_r, zKl_n, zKl_l, gK_sI, gK_sJ, gK_sR, gK_sIA, gK_sJA, gR_sI, gR_sJ, gJ_sI, gI_sJ, gI_sR, gJ_sR, gR_sIA, gJ_sIA, Nat.reduceLeDiff, Nat.reduceEqDiff, and_self, and_true, true_and, and_false, false_and, eX6_trade_0, eX6_trade_1, eX6_trade_2, eX6_trade_5, eX6_trade_8, eX6_trade_9, eX6_trade_10, eX6_trade_13, eX6_trade_16, eX6_trade_17, eX6_trade_18, eX6_trade_19, eX6_trade_22, eX6_trade_25, eX6_trade_28, eX6_trade_29, eX6_trade_30, eX6_trade_33, eX6_trade_34, eX6_trade_35, eX6_trade_38, eX6_trade_39, eX6_trade_42, eX6_trade_43, eX6_trade_44, eX6_trade_45, eX6_trade_46, eX6_trade_47, eX6_trade_48, eX6_trade_49, eX6_trade_50, eX6_trade_53, eX6_trade_in, zH2_gK, zH2_gR, zH2_at, zH2_sI, zU_ne, P, zMkk P, zMr0 P, zMk0 P, cM_isPort (P2 _ _), cM_isGood (P2 _ _), cM_isFrom, cM_portRow, e7, zH2_sI, cM_is (P2 _ _), zH2_sIne]
    exact zGm hQ e _
  · have e : oTrade a p g x = (a, 0, 1) := if_neg hc
    have h9 := zGm hQ e f
    simp (disch := (first | (simp only [gK_sI, gK_sJ, gK_sR, gK_sIA, gK_sJA, gR_sI, gR_sJ, gR_sIA, Nat.reduceLeDiff, Nat.reduceEqDiff, Nat.reduceLT, Int.reduceLE, Int.reduceLT, Int.reduceEq, zWt_i, zWt_l, zWt_r, zWt_n, zH2_gK, zH2_mk, P, zMkk P, zMr0 P, zMk0 P] <;> omega) | omega | fail)) only [wI_id, zLc_lt, zLc_gt, zLc_eq, zLc_le, zLc_ge, Int.reduceEq, Int.reduceLE, Int.reduceLT, Int.reduceNeg, Int.reduceAdd, Int.reduceMul, Int.reduceSub, not_true_eq_false, not_false_eq_true, reduceIte, zPo_v, zPo_n, zPo_t, zKl_i, zKl_r, zKl_n, zKl_l, gK_sI, gK_sJ, gK_sR, gK_sIA, gK_sJA, gR_sI, gR_sJ, gJ_sI, gI_sJ, gI_sR, gJ_sR, gR_sIA, gJ_sIA, Nat.reduceLeDiff, Nat.reduceEqDiff, and_self, and_true, true_and, and_false, false_and, eX6_trade_0, eX6_trade_1, eX6_trade_2, eX6_trade_5, eX6_trade_8, eX6_trade_9, eX6_trade_10, eX6_trade_13, eX6_trade_16, eX6_trade_17, eX6_trade_18, eX6_trade_19, eX6_trade_22, eX6_trade_25, eX6_trade_28, eX6_trade_29, eX6_trade_30, eX6_trade_33, eX6_trade_35, eX6_trade_38, eX6_trade_39, eX6_trade_42, eX6_trade_43, eX6_trade_44, eX6_trade_45, eX6_trade_46, eX6_trade_47, eX6_trade_48, eX6_trade_49, eX6_trade_50, eX6_trade_53, eX6_trade_in, zH2_gK, zH2_gR, zH2_at, zH2_sI, zU_ne, P, zMkk P, zMr0 P, zMk0 P, cM_isPort (P2 _ _), cM_isGood (P2 _ _), cM_isFrom, cM_is (P2 _ _), zH2_sIne]
    (repeat' split) <;> first | exact h9 | (exfalso; omega)
theorem oX_trade {p g x : Int} (K : zXk h) (v : zIv a) (P : zPw h 75 a nm) (hQ : ∀ h', zPw h' 75 (oTrade a p g x).1 nm → zSx h h' → gI h' 65 7 = (oTrade a p g x).2.2 → Q (zRv (zi (oTrade a p g x).2.1) h')) : zCm mX0_trade d [zr (some 65), zi p, zi g, zi x] h Q := by
  have W := P.2.1
  have e2 : ∀ x, zXk (sI h 65 7 x) := fun _ => K
  have P9 : ∀ x, zPw (sI h 65 7 x) 75 a nm := fun x => zPw_st v P K
  have S9 : ∀ x, zSx h (sI h 65 7 x) := fun x => zSx_st zSx_rf
  have b0 := (zIgd v).1
  have b1 := (zIgd v).2.1
  have b2 := zIports v
  have b3 := zIships v
  have b4 := zIrule v
  by_cases hc : (0 ≤ p ∧ p < a 2) ∧ (0 ≤ g ∧ g < a 1) ∧ (0 ≤ x ∧ x ≤ 99)
  · have e : oTrade a p g x = (zU a (57 + 15 * p + g) x, 1, 0) := if_pos hc
    simp (disch := (first | (simp only [gK_sI, gK_sJ, gK_sR, gK_sIA, gK_sJA, gR_sI, gR_sJ, gR_sIA, Nat.reduceLeDiff, Nat.reduceEqDiff, Nat.reduceLT, Int.reduceLE, Int.reduceLT, Int.reduceEq, zWt_i, zWt_l, zWt_r, zWt_n, K, zXkk K, zXh0 K, W, zWkk W, zWr11 W, zWk11 W, e2] <;> omega) | omega | fail)) only [if_pos, if_neg, wI_id, zLc_lt, zLc_gt, zLc_eq, zLc_le, zLc_ge, Int.reduceEq, Int.reduceLE, Int.reduceLT, Int.reduceNeg, Int.reduceAdd, Int.reduceMul, Int.reduceSub, not_true_eq_false, not_false_eq_true, reduceIte, zPo_v, zPo_n, zPo_t, zKl_i, zKl_r, zKl_n, zKl_l, gK_sI, gK_sJ, gK_sR, gK_sIA, gK_sJA, gR_sI, gR_sJ, gJ_sI, gI_sJ, gI_sR, gJ_sR, gR_sIA, gJ_sIA, Nat.reduceLeDiff, Nat.reduceEqDiff, and_self, and_true, true_and, and_false, false_and, eX0_trade_0, eX0_trade_1, eX0_trade_2, eX0_trade_3, eX0_trade_6, eX0_trade_9, eX0_trade_10, eX0_trade_11, eX0_trade_14, eX0_trade_17, eX0_trade_18, eX0_trade_19, eX0_trade_20, eX0_trade_23, eX0_trade_26, eX0_trade_29, eX0_trade_30, eX0_trade_33, eX0_trade_34, eX0_trade_37, eX0_trade_38, eX0_trade_41, eX0_trade_44, eX0_trade_45, eX0_trade_48, eX0_trade_51, eX0_trade_53, eX0_trade_54, eX0_trade_55, eX0_trade_56, eX0_trade_57, eX0_trade_58, eX0_trade_59, eX0_trade_60, eX0_trade_63, eX0_trade_66, eX0_trade_67, eX0_trade_70, eX0_trade_71, tX0_trade, eX0_trade_in, K, zXkk K, zXh0 K, W, zWkk W, zWr11 W, zWk11 W, kX0_isPort K v P, kX0_isGood K v P, kX0_isIn, kX0_at, gI_sI_ne, gI_sI_eq, zU_eq, Nat.reduceAdd]
    exact zGx hQ (zPw_price v (P9 0) (by omega) (by omega) (by omega) (by omega)) (zSx_sI (S9 0) (by decide) (by decide)) (by rw [gI_sI_ne (by decide), gI_sI_eq, zU_eq]) e
  · have e : oTrade a p g x = (a, 0, 1) := if_neg hc
    have h9 := zGxs hQ K P zSx_rf e
    simp (disch := (first | (simp only [gK_sI, gK_sJ, gK_sR, gK_sIA, gK_sJA, gR_sI, gR_sJ, gR_sIA, Nat.reduceLeDiff, Nat.reduceEqDiff, Nat.reduceLT, Int.reduceLE, Int.reduceLT, Int.reduceEq, zWt_i, zWt_l, zWt_r, zWt_n, K, zXkk K, zXh0 K, W, zWkk W, zWr11 W, zWk11 W, e2] <;> omega) | omega | fail)) only [wI_id, zLc_lt, zLc_gt, zLc_eq, zLc_le, zLc_ge, Int.reduceEq, Int.reduceLE, Int.reduceLT, Int.reduceNeg, Int.reduceAdd, Int.reduceMul, Int.reduceSub, not_true_eq_false, not_false_eq_true, reduceIte, zPo_v, zPo_n, zPo_t, zKl_i, zKl_r, zKl_n, zKl_l, gK_sI, gK_sJ, gK_sR, gK_sIA, gK_sJA, gR_sI, gR_sJ, gJ_sI, gI_sJ, gI_sR, gJ_sR, gR_sIA, gJ_sIA, Nat.reduceLeDiff, Nat.reduceEqDiff, and_self, and_true, true_and, and_false, false_and, eX0_trade_0, eX0_trade_1, eX0_trade_2, eX0_trade_3, eX0_trade_6, eX0_trade_9, eX0_trade_10, eX0_trade_11, eX0_trade_14, eX0_trade_17, eX0_trade_18, eX0_trade_19, eX0_trade_20, eX0_trade_23, eX0_trade_26, eX0_trade_29, eX0_trade_30, eX0_trade_33, eX0_trade_34, eX0_trade_37, eX0_trade_38, eX0_trade_41, eX0_trade_44, eX0_trade_45, eX0_trade_48, eX0_trade_51, eX0_trade_53, eX0_trade_54, eX0_trade_55, eX0_trade_56, eX0_trade_57, eX0_trade_58, eX0_trade_59, eX0_trade_60, eX0_trade_63, eX0_trade_66, eX0_trade_67, eX0_trade_70, eX0_trade_71, tX0_trade, eX0_trade_in, K, zXkk K, zXh0 K, W, zWkk W, zWr11 W, zWk11 W, kX0_isPort K v P, kX0_isGood K v P, kX0_isIn, kX0_at, gI_sI_ne, gI_sI_eq, zU_eq]
    (repeat' split) <;> first | exact h9 | (exfalso; omega)
theorem oM_pay {s n : Int} (P : zMk h) (v : zIv a) (hQ : ∀ k9, Q (zRv (zi (oPay a s n).2.1) (zH2 (sI h 113 2 (oPay a s n).2.2) (oPay a s n).1 k9))) : zCm mX6_pay d [zr (some 113), zi s, zi n] (zH2 h a f) Q := by
  have P2 : ∀ a f, zMk (zH2 h a f) := fun _ _ => P
  have P3 : ∀ a f x, zMk (zH2 (sI h 113 2 x) a f) := fun _ _ _ => P
  have b0 := (zIgd v).1
  have b1 := (zIgd v).2.1
  have b2 := zIports v
  have b3 := zIships v
  have b4 := zIrule v
  have e7 : 146 + 15 * s + 4 = 150 + 15 * s := by omega
  by_cases hc : (0 ≤ s ∧ s < a 3) ∧ (-9999 ≤ n ∧ n ≤ 9999)
  · have hq := zIcoin v s hc.1.1 hc.1.2
    by_cases ok : 0 ≤ a (150 + 15 * s) + n ∧ a (150 + 15 * s) + n ≤ 9999
    · have e : oPay a s n = (zU a (150 + 15 * s) (a (150 + 15 * s) + n), a (150 + 15 * s) + n, 0) := by
        unfold oPay
        rw [if_pos hc, if_pos ok]
      simp (disch := (first | (simp only [gK_sI, gK_sJ, gK_sR, gK_sIA, gK_sJA, gR_sI, gR_sJ, gR_sIA, Nat.reduceLeDiff, Nat.reduceEqDiff, Nat.reduceLT, Int.reduceLE, Int.reduceLT, Int.reduceEq, zWt_i, zWt_l, zWt_r, zWt_n, zH2_gK, zH2_mk, P, zMkk P, zMr0 P, zMk0 P] <;> omega) | omega | fail)) only [if_pos, if_neg, wI_id, zLc_lt, zLc_gt, zLc_eq, zLc_le, zLc_ge, Int.reduceEq, Int.reduceLE, Int.reduceLT, Int.reduceNeg, Int.reduceAdd, Int.reduceMul, Int.reduceSub, not_true_eq_false, not_false_eq_true, reduceIte, zPo_v, zPo_n, zPo_t, zKl_i, zKl_r, zKl_n, zKl_l, gK_sI, gK_sJ, gK_sR, gK_sIA, gK_sJA, gR_sI, gR_sJ, gJ_sI, gI_sJ, gI_sR, gJ_sR, gR_sIA, gJ_sIA, Nat.reduceLeDiff, Nat.reduceEqDiff, and_self, and_true, true_and, and_false, false_and, eX6_pay_0, eX6_pay_1, eX6_pay_2, eX6_pay_5, eX6_pay_8, eX6_pay_9, eX6_pay_10, eX6_pay_13, eX6_pay_16, eX6_pay_19, eX6_pay_22, eX6_pay_23, eX6_pay_24, eX6_pay_27, eX6_pay_28, eX6_pay_29, eX6_pay_30, eX6_pay_31, eX6_pay_34, eX6_pay_35, eX6_pay_36, eX6_pay_37, eX6_pay_38, eX6_pay_41, eX6_pay_44, eX6_pay_47, eX6_pay_48, eX6_pay_50, eX6_pay_53, eX6_pay_54, eX6_pay_55, eX6_pay_58, eX6_pay_59, eX6_pay_62, eX6_pay_63, eX6_pay_64, eX6_pay_65, eX6_pay_66, eX6_pay_67, eX6_pay_68, eX6_pay_69, eX6_pay_70, eX6_pay_71, eX6_pay_72, eX6_pay_73, eX6_pay_76, eX6_pay_79, eX6_pay_in, zH2_gK, zH2_gR, zH2_at, zH2_sI, zU_ne, P, zMkk P, zMr0 P, zMk0 P, cM_isShip (P2 _ _), cM_isFrom, kM_shipOf P, cM_shipRow, e7, zH2_sI, zU_eq, cM_gives (P2 _ _), zH2_sIne]
      exact zGm hQ e _
    · have e : oPay a s n = (a, -1, 7) := by
        unfold oPay
        rw [if_pos hc, if_neg ok]
      simp (disch := (first | (simp only [gK_sI, gK_sJ, gK_sR, gK_sIA, gK_sJA, gR_sI, gR_sJ, gR_sIA, Nat.reduceLeDiff, Nat.reduceEqDiff, Nat.reduceLT, Int.reduceLE, Int.reduceLT, Int.reduceEq, zWt_i, zWt_l, zWt_r, zWt_n, zH2_gK, zH2_mk, P, zMkk P, zMr0 P, zMk0 P] <;> omega) | omega | fail)) only [if_pos, if_neg, wI_id, zLc_lt, zLc_gt, zLc_eq, zLc_le, zLc_ge, Int.reduceEq, Int.reduceLE, Int.reduceLT, Int.reduceNeg, Int.reduceAdd, Int.reduceMul, Int.reduceSub, not_true_eq_false, not_false_eq_true, reduceIte, zPo_v, zPo_n, zPo_t, zKl_i, zKl_r, zKl_n, zKl_l, gK_sI, gK_sJ, gK_sR, gK_sIA, gK_sJA, gR_sI, gR_sJ, gJ_sI, gI_sJ, gI_sR, gJ_sR, gR_sIA, gJ_sIA, Nat.reduceLeDiff, Nat.reduceEqDiff, and_self, and_true, true_and, and_false, false_and, eX6_pay_0, eX6_pay_1, eX6_pay_2, eX6_pay_5, eX6_pay_8, eX6_pay_9, eX6_pay_10, eX6_pay_13, eX6_pay_16, eX6_pay_19, eX6_pay_22, eX6_pay_23, eX6_pay_24, eX6_pay_27, eX6_pay_28, eX6_pay_29, eX6_pay_30, eX6_pay_31, eX6_pay_34, eX6_pay_35, eX6_pay_36, eX6_pay_37, eX6_pay_38, eX6_pay_41, eX6_pay_44, eX6_pay_47, eX6_pay_48, eX6_pay_50, eX6_pay_53, eX6_pay_54, eX6_pay_55, eX6_pay_58, eX6_pay_59, eX6_pay_62, eX6_pay_63, eX6_pay_64, eX6_pay_65, eX6_pay_66, eX6_pay_67, eX6_pay_68, eX6_pay_69, eX6_pay_70, eX6_pay_71, eX6_pay_72, eX6_pay_73, eX6_pay_76, eX6_pay_79, eX6_pay_in, zH2_gK, zH2_gR, zH2_at, zH2_sI, zU_ne, P, zMkk P, zMr0 P, zMk0 P, cM_isShip (P2 _ _), cM_isFrom, kM_shipOf P, e7, cM_refuse (P2 _ _), zH2_sIne]
      exact zGm hQ e _
  · have e : oPay a s n = (a, -1, 1) := if_neg hc
    have h9 := zGm hQ e f
    simp (disch := (first | (simp only [gK_sI, gK_sJ, gK_sR, gK_sIA, gK_sJA, gR_sI, gR_sJ, gR_sIA, Nat.reduceLeDiff, Nat.reduceEqDiff, Nat.reduceLT, Int.reduceLE, Int.reduceLT, Int.reduceEq, zWt_i, zWt_l, zWt_r, zWt_n, zH2_gK, zH2_mk, P, zMkk P, zMr0 P, zMk0 P] <;> omega) | omega | fail)) only [wI_id, zLc_lt, zLc_gt, zLc_eq, zLc_le, zLc_ge, Int.reduceEq, Int.reduceLE, Int.reduceLT, Int.reduceNeg, Int.reduceAdd, Int.reduceMul, Int.reduceSub, not_true_eq_false, not_false_eq_true, reduceIte, zPo_v, zPo_n, zPo_t, zKl_i, zKl_r, zKl_n, zKl_l, gK_sI, gK_sJ, gK_sR, gK_sIA, gK_sJA, gR_sI, gR_sJ, gJ_sI, gI_sJ, gI_sR, gJ_sR, gR_sIA, gJ_sIA, Nat.reduceLeDiff, Nat.reduceEqDiff, and_self, and_true, true_and, and_false, false_and, eX6_pay_0, eX6_pay_1, eX6_pay_2, eX6_pay_5, eX6_pay_8, eX6_pay_9, eX6_pay_10, eX6_pay_13, eX6_pay_16, eX6_pay_19, eX6_pay_22, eX6_pay_23, eX6_pay_24, eX6_pay_27, eX6_pay_29, eX6_pay_30, eX6_pay_31, eX6_pay_34, eX6_pay_35, eX6_pay_36, eX6_pay_37, eX6_pay_38, eX6_pay_41, eX6_pay_44, eX6_pay_47, eX6_pay_48, eX6_pay_50, eX6_pay_53, eX6_pay_54, eX6_pay_55, eX6_pay_58, eX6_pay_59, eX6_pay_62, eX6_pay_63, eX6_pay_64, eX6_pay_65, eX6_pay_66, eX6_pay_67, eX6_pay_68, eX6_pay_69, eX6_pay_70, eX6_pay_71, eX6_pay_72, eX6_pay_73, eX6_pay_76, eX6_pay_79, eX6_pay_in, zH2_gK, zH2_gR, zH2_at, zH2_sI, zU_ne, P, zMkk P, zMr0 P, zMk0 P, cM_isShip (P2 _ _), cM_isFrom, cM_refuse (P2 _ _), zH2_sIne]
    (repeat' split) <;> first | exact h9 | (exfalso; omega)
theorem oX_pay {s n : Int} (K : zXk h) (v : zIv a) (P : zPw h 75 a nm) (hQ : ∀ h', zPw h' 75 (oPay a s n).1 nm → zSx h h' → gI h' 65 7 = (oPay a s n).2.2 → Q (zRv (zi (oPay a s n).2.1) h')) : zCm mX0_pay d [zr (some 65), zi s, zi n] h Q := by
  have W := P.2.1
  have e2 : ∀ x, zXk (sI h 65 7 x) := fun _ => K
  have P9 : ∀ x, zPw (sI h 65 7 x) 75 a nm := fun x => zPw_st v P K
  have S9 : ∀ x, zSx h (sI h 65 7 x) := fun x => zSx_st zSx_rf
  have b0 := (zIgd v).1
  have b1 := (zIgd v).2.1
  have b2 := zIports v
  have b3 := zIships v
  have b4 := zIrule v
  by_cases hc : (0 ≤ s ∧ s < a 3) ∧ (-9999 ≤ n ∧ n ≤ 9999)
  · have hq := zIcoin v s hc.1.1 hc.1.2
    have e1 : gI h 86 s = a (150 + 15 * s) := (P.2.2.1.2.2.2.2.2.2.2.2.2.1 s (by omega) (by omega)).2.1
    by_cases ok : 0 ≤ a (150 + 15 * s) + n ∧ a (150 + 15 * s) + n ≤ 9999
    · have e : oPay a s n = (zU a (150 + 15 * s) (a (150 + 15 * s) + n), a (150 + 15 * s) + n, 0) := by
        unfold oPay
        rw [if_pos hc, if_pos ok]
      simp (disch := (first | (simp only [gK_sI, gK_sJ, gK_sR, gK_sIA, gK_sJA, gR_sI, gR_sJ, gR_sIA, Nat.reduceLeDiff, Nat.reduceEqDiff, Nat.reduceLT, Int.reduceLE, Int.reduceLT, Int.reduceEq, zWt_i, zWt_l, zWt_r, zWt_n, K, zXkk K, zXh0 K, W, zWkk W, zWr16 W, zWk16 W, zXk_sI] <;> omega) | omega | fail)) only [if_pos, if_neg, wI_id, zLc_lt, zLc_gt, zLc_eq, zLc_le, zLc_ge, Int.reduceEq, Int.reduceLE, Int.reduceLT, Int.reduceNeg, Int.reduceAdd, Int.reduceMul, Int.reduceSub, not_true_eq_false, not_false_eq_true, reduceIte, zPo_v, zPo_n, zPo_t, zKl_i, zKl_r, zKl_n, zKl_l, gK_sI, gK_sJ, gK_sR, gK_sIA, gK_sJA, gR_sI, gR_sJ, gJ_sI, gI_sJ, gI_sR, gJ_sR, gR_sIA, gJ_sIA, Nat.reduceLeDiff, Nat.reduceEqDiff, and_self, and_true, true_and, and_false, false_and, eX0_pay_0, eX0_pay_1, eX0_pay_2, eX0_pay_3, eX0_pay_6, eX0_pay_9, eX0_pay_10, eX0_pay_11, eX0_pay_14, eX0_pay_17, eX0_pay_20, eX0_pay_23, eX0_pay_24, eX0_pay_27, eX0_pay_28, eX0_pay_31, eX0_pay_34, eX0_pay_35, eX0_pay_36, eX0_pay_37, eX0_pay_38, eX0_pay_39, eX0_pay_40, eX0_pay_43, eX0_pay_46, eX0_pay_49, eX0_pay_50, eX0_pay_53, eX0_pay_55, eX0_pay_58, eX0_pay_59, eX0_pay_62, eX0_pay_65, eX0_pay_66, eX0_pay_67, eX0_pay_68, eX0_pay_71, eX0_pay_74, eX0_pay_75, eX0_pay_76, eX0_pay_77, eX0_pay_78, eX0_pay_79, eX0_pay_80, eX0_pay_81, eX0_pay_84, eX0_pay_87, eX0_pay_88, eX0_pay_89, tX0_pay, eX0_pay_in, K, zXkk K, zXh0 K, W, zWkk W, zWr16 W, zWk16 W, kX0_isShip K v P, kX0_isIn, kX0_at, gI_sI_ne, gI_sI_eq, zU_eq, Nat.reduceAdd, e1]
      exact zGx hQ (zPw_coin v (P9 0) (by omega) (by omega)) (zSx_sI (S9 0) (by decide) (by decide)) (by rw [gI_sI_ne (by decide), gI_sI_eq, zU_eq]) e
    · have e : oPay a s n = (a, -1, 7) := by
        unfold oPay
        rw [if_pos hc, if_neg ok]
      simp (disch := (first | (simp only [gK_sI, gK_sJ, gK_sR, gK_sIA, gK_sJA, gR_sI, gR_sJ, gR_sIA, Nat.reduceLeDiff, Nat.reduceEqDiff, Nat.reduceLT, Int.reduceLE, Int.reduceLT, Int.reduceEq, zWt_i, zWt_l, zWt_r, zWt_n, K, zXkk K, zXh0 K, W, zWkk W, zWr16 W, zWk16 W, e2] <;> omega) | omega | fail)) only [if_pos, if_neg, wI_id, zLc_lt, zLc_gt, zLc_eq, zLc_le, zLc_ge, Int.reduceEq, Int.reduceLE, Int.reduceLT, Int.reduceNeg, Int.reduceAdd, Int.reduceMul, Int.reduceSub, not_true_eq_false, not_false_eq_true, reduceIte, zPo_v, zPo_n, zPo_t, zKl_i, zKl_r, zKl_n, zKl_l, gK_sI, gK_sJ, gK_sR, gK_sIA, gK_sJA, gR_sI, gR_sJ, gJ_sI, gI_sJ, gI_sR, gJ_sR, gR_sIA, gJ_sIA, Nat.reduceLeDiff, Nat.reduceEqDiff, and_self, and_true, true_and, and_false, false_and, eX0_pay_0, eX0_pay_1, eX0_pay_2, eX0_pay_3, eX0_pay_6, eX0_pay_9, eX0_pay_10, eX0_pay_11, eX0_pay_14, eX0_pay_17, eX0_pay_20, eX0_pay_23, eX0_pay_24, eX0_pay_27, eX0_pay_28, eX0_pay_31, eX0_pay_34, eX0_pay_35, eX0_pay_36, eX0_pay_37, eX0_pay_38, eX0_pay_39, eX0_pay_40, eX0_pay_43, eX0_pay_46, eX0_pay_49, eX0_pay_50, eX0_pay_53, eX0_pay_55, eX0_pay_58, eX0_pay_59, eX0_pay_62, eX0_pay_65, eX0_pay_66, eX0_pay_67, eX0_pay_68, eX0_pay_71, eX0_pay_74, eX0_pay_75, eX0_pay_76, eX0_pay_77, eX0_pay_78, eX0_pay_79, eX0_pay_80, eX0_pay_81, eX0_pay_84, eX0_pay_87, eX0_pay_88, eX0_pay_89, tX0_pay, eX0_pay_in, K, zXkk K, zXh0 K, W, zWkk W, zWr16 W, zWk16 W, kX0_isShip K v P, kX0_isIn, kX0_at, gI_sI_ne, gI_sI_eq, zU_eq, Nat.reduceAdd, e1]
      exact zGxs hQ K P zSx_rf e
  · have e : oPay a s n = (a, -1, 1) := if_neg hc
    have h9 := zGxs hQ K P zSx_rf e
    simp (disch := (first | (simp only [gK_sI, gK_sJ, gK_sR, gK_sIA, gK_sJA, gR_sI, gR_sJ, gR_sIA, Nat.reduceLeDiff, Nat.reduceEqDiff, Nat.reduceLT, Int.reduceLE, Int.reduceLT, Int.reduceEq, zWt_i, zWt_l, zWt_r, zWt_n, K, zXkk K, zXh0 K, W, zWkk W, zWr16 W, zWk16 W, e2] <;> omega) | omega | fail)) only [wI_id, zLc_lt, zLc_gt, zLc_eq, zLc_le, zLc_ge, Int.reduceEq, Int.reduceLE, Int.reduceLT, Int.reduceNeg, Int.reduceAdd, Int.reduceMul, Int.reduceSub, not_true_eq_false, not_false_eq_true, reduceIte, zPo_v, zPo_n, zPo_t, zKl_i, zKl_r, zKl_n, zKl_l, gK_sI, gK_sJ, gK_sR, gK_sIA, gK_sJA, gR_sI, gR_sJ, gJ_sI, gI_sJ, gI_sR, gJ_sR, gR_sIA, gJ_sIA, Nat.reduceLeDiff, Nat.reduceEqDiff, and_self, and_true, true_and, and_false, false_and, eX0_pay_0, eX0_pay_1, eX0_pay_2, eX0_pay_3, eX0_pay_6, eX0_pay_9, eX0_pay_10, eX0_pay_11, eX0_pay_14, eX0_pay_17, eX0_pay_20, eX0_pay_23, eX0_pay_24, eX0_pay_28, eX0_pay_31, eX0_pay_34, eX0_pay_35, eX0_pay_36, eX0_pay_37, eX0_pay_38, eX0_pay_39, eX0_pay_40, eX0_pay_43, eX0_pay_46, eX0_pay_49, eX0_pay_50, eX0_pay_53, eX0_pay_55, eX0_pay_58, eX0_pay_59, eX0_pay_62, eX0_pay_65, eX0_pay_66, eX0_pay_67, eX0_pay_68, eX0_pay_71, eX0_pay_74, eX0_pay_75, eX0_pay_76, eX0_pay_77, eX0_pay_78, eX0_pay_79, eX0_pay_80, eX0_pay_81, eX0_pay_84, eX0_pay_87, eX0_pay_88, eX0_pay_89, tX0_pay, eX0_pay_in, K, zXkk K, zXh0 K, W, zWkk W, zWr16 W, zWk16 W, kX0_isShip K v P, kX0_isIn, kX0_at, gI_sI_ne, gI_sI_eq, zU_eq]
    (repeat' split) <;> first | exact h9 | (exfalso; omega)
end O3
