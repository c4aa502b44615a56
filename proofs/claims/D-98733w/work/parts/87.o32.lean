/-! ===== THE COMPONENT IS MADE ===== -/
set_option maxRecDepth 100000
set_option maxHeartbeats 1000000
def zKy (i : Nat) : Nat × Nat := match i with | 0 => (5, 4) | 1 => (0, 1) | 2 => (0, 1) | 3 => (0, 1) | 4 => (0, 1) | 5 => (2, 900) | 6 => (0, 2) | 7 => (0, 3) | 8 => (0, 4) | 9 => (0, 5) | 10 => (6, 6) | 11 => (7, 8) | 12 => (8, 6) | 13 => (9, 4) | 14 => (1, 6) | 15 => (1, 48) | 16 => (1, 36) | 17 => (1, 4) | 18 => (1, 4) | 19 => (1, 4) | 20 => (1, 4) | 21 => (1, 4) | 22 => (1, 4) | 23 => (1, 32) | 24 => (1, 6) | 25 => (10, 3) | 26 => (0, 5) | 27 => (6, 6) | 28 => (7, 8) | 29 => (8, 6) | 30 => (9, 4) | 31 => (1, 6) | 32 => (1, 48) | 33 => (1, 36) | 34 => (1, 4) | 35 => (1, 4) | 36 => (1, 4) | 37 => (1, 4) | 38 => (1, 4) | 39 => (1, 4) | 40 => (1, 32) | 41 => (1, 6) | 42 => (1, 40) | 43 => (1, 2) | 44 => (1, 2) | 45 => (1, 6) | 46 => (1, 5) | _ => (0, 0)
abbrev zEt : Type := Nat → Int → Option Nat
def zEu (E : zEt) (c : Nat) (j : Int) (o : Option Nat) : zEt := fun b => if b = c then zU (E c) j o else E b
def zEd0 : zEt := fun _ _ => none
/-- so many cells of the component are made, from 66 on -/
def zXn (h : zHp) (n z : Nat) (E : zEt) (X Y : Int → Int) (H : zHp) : Prop := gN H = 66 + n ∧ gC H = gC h + n ∧ gS H = gS h + z ∧ (∀ i, i < n → gK H (66 + i) = zKy i) ∧ (∀ b, b < 66 ∨ 66 + n ≤ b → gK H b = gK h b) ∧ (∀ b, 65 ≤ b → b < 66 + n → b ≠ 75 → b ≠ 92 → gR H b = E b) ∧ (∀ b, b < 65 → gR H b = gR h b) ∧ (∀ b, b < 65 → gI H b = gI h b ∧ gJ H b = gJ h b) ∧ (∀ b, 66 ≤ b → b < 66 + n → gI H b = (fun _ => 0) ∧ gJ H b = fun _ => 0) ∧ gI H 65 = X ∧ gJ H 65 = Y ∧ (25 ≤ n → ∀ j : Int, 6 ≤ j → j ≤ 20 → gR H 75 j = some (70 + j.toNat)) ∧ (42 ≤ n → ∀ j : Int, 6 ≤ j → j ≤ 20 → gR H 92 j = some (87 + j.toNat))
theorem zXn_new {h H : zHp} {n z q : Nat} {E : zEt} {X Y : Int → Int} {k : Nat × Nat} (F : zXn h n z E X Y H) (hn : (n < 24 ∨ 25 ≤ n) ∧ (n < 41 ∨ 42 ≤ n)) (hk : zKy n = k) (he : E (66 + n) = fun _ => none) : zXn h (n + 1) (z + q) E X Y (gNew H k q) := by
  obtain ⟨f1, f2, f3, f4, f5, f6, f7, f8, f9, fa, fb, fc, fd⟩ := F
  refine ⟨?_, ?_, ?_, fun i hi => ?_, fun b hb => ?_, fun b b0 b1 b2 b3 => ?_, fun b hb => ?_, fun b hb => ?_, fun b b0 b1 => ?_, ?_, ?_, fun hc j j0 j1 => ?_, fun hc j j0 j1 => ?_⟩
  · rw [gN_new, f1]
    omega
  · rw [gC_new, f2]
    omega
  · rw [gS_new, f3]
    omega
  · by_cases e : i = n
    · subst e
      rw [gK_new_eq (by omega), hk]
    · rw [gK_new_ne (by omega)]
      exact f4 i (by omega)
  · rw [gK_new_ne (by omega)]
    exact f5 b (by omega)
  · by_cases e : b = 66 + n
    · rw [gR_new_eq (by omega), e, he]
    · rw [gR_new_ne (by omega)]
      exact f6 b b0 (by omega) b2 b3
  · rw [gR_new_ne (by omega)]
    exact f7 b hb
  · rw [gI_new_ne (by omega), gJ_new_ne (by omega)]
    exact f8 b hb
  · by_cases e : b = 66 + n
    · rw [gI_new_eq (by omega), gJ_new_eq (by omega)]
      exact ⟨rfl, rfl⟩
    · rw [gI_new_ne (by omega), gJ_new_ne (by omega)]
      exact f9 b b0 (by omega)
  · rw [gI_new_ne (by omega)]
    exact fa
  · rw [gJ_new_ne (by omega)]
    exact fb
  · rw [gR_new_ne (by omega)]
    exact fc (by omega) j j0 j1
  · rw [gR_new_ne (by omega)]
    exact fd (by omega) j j0 j1
theorem zXn_sR {h H : zHp} {n z c : Nat} {E : zEt} {X Y : Int → Int} {j : Int} {o : Option Nat} (F : zXn h n z E X Y H) (c0 : 65 ≤ c) (c1 : c < 66 + n) (c2 : c ≠ 75) (c3 : c ≠ 92) : zXn h n z (zEu E c j o) X Y (sR H c j o) := by
  obtain ⟨f1, f2, f3, f4, f5, f6, f7, f8, f9, fa, fb, fc, fd⟩ := F
  refine ⟨f1, f2, f3, f4, f5, fun b b0 b1 b2 b3 => ?_, fun b hb => ?_, f8, f9, fa, fb, fun hc => ?_, fun hc => ?_⟩
  · unfold zEu
    by_cases e : b = c
    · subst e
      rw [gR_sR_eq, if_pos rfl, f6 b b0 b1 b2 b3]
    · rw [gR_sR_ne e, if_neg e]
      exact f6 b b0 b1 b2 b3
  · rw [gR_sR_ne (by omega)]
    exact f7 b hb
  · rw [gR_sR_ne (Ne.symm c2)]
    exact fc hc
  · rw [gR_sR_ne (Ne.symm c3)]
    exact fd hc
theorem zXn_sI {h H : zHp} {n z : Nat} {E : zEt} {X Y : Int → Int} {j v : Int} (F : zXn h n z E X Y H) : zXn h n z E (zU X j v) Y (sI H 65 j v) := by
  obtain ⟨f1, f2, f3, f4, f5, f6, f7, f8, f9, fa, fb, fc, fd⟩ := F
  refine ⟨f1, f2, f3, f4, f5, f6, f7, fun b hb => ?_, fun b b0 b1 => ?_, ?_, fb, fc, fd⟩
  · rw [gI_sI_ne (by omega)]
    exact f8 b hb
  · rw [gI_sI_ne (by omega)]
    exact f9 b b0 b1
  · rw [gI_sI_eq, fa]
theorem zXn_sJ {h H : zHp} {n z : Nat} {E : zEt} {X Y : Int → Int} {j v : Int} (F : zXn h n z E X Y H) : zXn h n z E X (zU Y j v) (sJ H 65 j v) := by
  obtain ⟨f1, f2, f3, f4, f5, f6, f7, f8, f9, fa, fb, fc, fd⟩ := F
  refine ⟨f1, f2, f3, f4, f5, f6, f7, fun b hb => ?_, fun b b0 b1 => ?_, fa, ?_, fc, fd⟩
  · rw [gJ_sJ_ne (by omega)]
    exact f8 b hb
  · rw [gJ_sJ_ne (by omega)]
    exact f9 b b0 b1
  · rw [gJ_sJ_eq, fb]
theorem zWn_r {w : Nat} {h h' : zHp} (W : zWn w h h') : ∀ j : Int, 6 ≤ j → j ≤ 20 → gR h' w j = some (w + j.toNat - 5) := by
  obtain ⟨w1, w2, w3, w4, w5, w6, ⟨r6, r7, r8, r9⟩, -⟩ := W
  intro j j0 j1
  have hj : j = 6 ∨ j = 7 ∨ j = 8 ∨ j = 9 ∨ j = 10 ∨ j = 11 ∨ j = 12 ∨ j = 13 ∨ j = 14 ∨ j = 15 ∨ j = 16 ∨ j = 17 ∨ j = 18 ∨ j = 19 ∨ j = 20 := by omega
  obtain rfl | rfl | rfl | rfl | rfl | rfl | rfl | rfl | rfl | rfl | rfl | rfl | rfl | rfl | rfl := hj
  · exact r6
  · exact r7
  · exact r8
  · exact r9
  · exact zWr10 w4
  · exact zWr11 w4
  · exact zWr12 w4
  · exact zWr13 w4
  · exact zWr14 w4
  · exact zWr15 w4
  · exact zWr16 w4
  · exact zWr17 w4
  · exact zWr18 w4
  · exact zWr19 w4
  · exact zWr20 w4
theorem zWn_k {w : Nat} {h h' : zHp} (W : zWn w h h') : ∀ i, i < 15 → gK h' (w + 1 + i) = zKw i := by
  obtain ⟨w1, w2, w3, w4, w5, ⟨k0, k1, k2, k3⟩, -⟩ := W
  intro i hi
  have hj : i = 0 ∨ i = 1 ∨ i = 2 ∨ i = 3 ∨ i = 4 ∨ i = 5 ∨ i = 6 ∨ i = 7 ∨ i = 8 ∨ i = 9 ∨ i = 10 ∨ i = 11 ∨ i = 12 ∨ i = 13 ∨ i = 14 := by omega
  obtain rfl | rfl | rfl | rfl | rfl | rfl | rfl | rfl | rfl | rfl | rfl | rfl | rfl | rfl | rfl := hj
  · exact k0
  · exact k1
  · exact k2
  · exact k3
  · exact zWk10 w4
  · exact zWk11 w4
  · exact zWk12 w4
  · exact zWk13 w4
  · exact zWk14 w4
  · exact zWk15 w4
  · exact zWk16 w4
  · exact zWk17 w4
  · exact zWk18 w4
  · exact zWk19 w4
  · exact zWk20 w4
theorem zXn_w {h H H' : zHp} {n z w : Nat} {E : zEt} {X Y : Int → Int} (F : zXn h n z E X Y H) (hw : (w = 75 ∧ n = 10) ∨ (w = 92 ∧ n = 27)) (he : ∀ b, w < b → b < w + 16 → E b = fun _ => none) (W : zWn w H H') : zXn h (n + 15) (z + 176) E X Y H' := by
  have wr := zWn_r W
  have wk := zWn_k W
  obtain ⟨w1, w2, w3, w4, w5, w6, w7, w8, w9, wa, wb⟩ := W
  obtain ⟨f1, f2, f3, f4, f5, f6, f7, f8, f9, fa, fb, fc, fd⟩ := F
  refine ⟨by omega, by omega, by omega, fun i hi => ?_, fun b hb => ?_, fun b b0 b1 b2 b3 => ?_, fun b hb => ?_, fun b hb => ?_, fun b b0 b1 => ?_, ?_, ?_, fun hc j j0 j1 => ?_, fun hc j j0 j1 => ?_⟩
  · by_cases e : i < n
    · rw [w8 _ (by omega)]
      exact f4 i e
    · have h9 := wk (i - n) (by omega)
      rw [show w + 1 + (i - n) = 66 + i by omega] at h9
      rw [h9]
      have key : ∀ a b : Nat, (a = 10 ∨ a = 27) → b < 15 → zKw b = zKy (a + b) := by
        intro a b ha hb
        have hb9 : b = 0 ∨ b = 1 ∨ b = 2 ∨ b = 3 ∨ b = 4 ∨ b = 5 ∨ b = 6 ∨ b = 7 ∨ b = 8 ∨ b = 9 ∨ b = 10 ∨ b = 11 ∨ b = 12 ∨ b = 13 ∨ b = 14 := by omega
        rcases ha with rfl | rfl <;> obtain rfl | rfl | rfl | rfl | rfl | rfl | rfl | rfl | rfl | rfl | rfl | rfl | rfl | rfl | rfl := hb9 <;> rfl
      rw [key n (i - n) (by omega) (by omega), show n + (i - n) = i by omega]
  · rw [w8 b (by omega)]
    exact f5 b (by omega)
  · by_cases e : b < 66 + n
    · rw [w9 b (by omega)]
      exact f6 b b0 e b2 b3
    · rw [(wb b (by omega) (by omega)).2.2, he b (by omega) (by omega)]
  · rw [w9 b (by omega)]
    exact f7 b hb
  · rw [(wa b (by omega)).1, (wa b (by omega)).2]
    exact f8 b hb
  · by_cases e : b < 66 + n
    · rw [(wa b (by omega)).1, (wa b (by omega)).2]
      exact f9 b b0 e
    · exact ⟨(wb b (by omega) (by omega)).1, (wb b (by omega) (by omega)).2.1⟩
  · rw [(wa 65 (by omega)).1]
    exact fa
  · rw [(wa 65 (by omega)).2]
    exact fb
  · rcases hw with ⟨e1, e2⟩ | ⟨e1, e2⟩
    · subst e1
      rw [wr j j0 j1]
      congr 1
      omega
    · rw [w9 75 (by omega)]
      exact fc (by omega) j j0 j1
  · rcases hw with ⟨e1, e2⟩ | ⟨e1, e2⟩
    · omega
    · subst e1
      rw [wr j j0 j1]
      congr 1
      omega
def zEd1 : zEt := zEu zEd0 66 0 (some 67)
def zEd2 : zEt := zEu zEd1 66 1 (some 68)
def zEd3 : zEt := zEu zEd2 66 2 (some 69)
def zEd4 : zEt := zEu zEd3 66 3 (some 70)
def zEd5 : zEt := zEu zEd4 65 0 (some 66)
def zEd6 : zEt := zEu zEd5 65 1 (some 71)
def zEd7 : zEt := zEu zEd6 65 5 (some 72)
def zEd8 : zEt := zEu zEd7 65 6 (some 73)
def zEd9 : zEt := zEu zEd8 74 0 (some 75)
def zEd10 : zEt := zEu zEd9 65 10 (some 74)
def zEd11 : zEt := zEu zEd10 65 11 (some 91)
def zEd12 : zEt := zEu zEd11 65 13 (some 92)
def zEd13 : zEt := zEu zEd12 65 17 (some 108)
def zEd14 : zEt := zEu zEd13 65 18 (some 109)
def zEd15 : zEt := zEu zEd14 65 19 (some 110)
def zEd16 : zEt := zEu zEd15 65 21 (some 111)
def zEd17 : zEt := zEu zEd16 65 23 (some 112)
section J15
variable {d : Nat} {h : zHp} {Q : zRs → Prop}
theorem cX_init (hk : gK h 65 = (0, 0)) (hN : gN h = 66) (hr : gR h 65 = fun _ => none) (hi : gI h 65 = fun _ => 0) (hj : gJ h 65 = fun _ => 0) (hQ : ∀ H, zXn h 47 1377 zEd17 (zU (zU (fun _ => 0) 3 (-1)) 4 (-1)) (zU (fun _ => 0) 9 1) H → Q (zRn H)) : zCm mX0_init d [zr (some 65)] h Q := by
  have k165 : ∀ H, zXn h 47 1377 zEd17 (zU (zU (fun _ => 0) 3 (-1)) 4 (-1)) (zU (fun _ => 0) 9 1) H → zEv mX0_init d 165 [some (zr (some 65))] [] H Q := fun H F => by
    simp (disch := (first | (simp only [gK_sI, gK_sJ, gK_sR, gK_sIA, gK_sJA, gR_sI, gR_sJ, gR_sIA, Nat.reduceLeDiff, Nat.reduceEqDiff, Nat.reduceLT, Int.reduceLE, Int.reduceLT, Int.reduceEq, zWt_i, zWt_l, zWt_r, zWt_n] <;> omega) | omega | fail)) only [if_pos, if_neg, wI_id, zLc_lt, zLc_gt, zLc_eq, zLc_le, zLc_ge, Int.reduceEq, Int.reduceLE, Int.reduceLT, Int.reduceNeg, Int.reduceAdd, Int.reduceMul, Int.reduceSub, not_true_eq_false, not_false_eq_true, reduceIte, zPo_v, zPo_n, zPo_t, zKl_i, zKl_r, zKl_n, zKl_l, gK_sI, gK_sJ, gK_sR, gK_sIA, gK_sJA, gR_sI, gR_sJ, gJ_sI, gI_sJ, gI_sR, gJ_sR, gR_sIA, gJ_sIA, Nat.reduceLeDiff, Nat.reduceEqDiff, and_self, and_true, true_and, and_false, false_and, eX0_init_0, eX0_init_1, eX0_init_4, eX0_init_5, eX0_init_6, eX0_init_9, eX0_init_10, eX0_init_11, eX0_init_14, eX0_init_15, eX0_init_18, eX0_init_19, eX0_init_20, eX0_init_21, eX0_init_24, eX0_init_25, eX0_init_28, eX0_init_29, eX0_init_30, eX0_init_31, eX0_init_34, eX0_init_35, eX0_init_38, eX0_init_39, eX0_init_40, eX0_init_41, eX0_init_44, eX0_init_45, eX0_init_48, eX0_init_49, eX0_init_52, eX0_init_53, eX0_init_56, eX0_init_58, eX0_init_61, eX0_init_62, eX0_init_63, eX0_init_66, eX0_init_67, eX0_init_68, eX0_init_71, eX0_init_72, eX0_init_75, eX0_init_76, eX0_init_79, eX0_init_82, eX0_init_83, eX0_init_86, eX0_init_87, eX0_init_90, eX0_init_93, eX0_init_94, eX0_init_95, eX0_init_98, eX0_init_99, eX0_init_102, eX0_init_103, eX0_init_106, eX0_init_109, eX0_init_110, eX0_init_111, eX0_init_114, eX0_init_117, eX0_init_118, eX0_init_121, eX0_init_122, eX0_init_125, eX0_init_128, eX0_init_129, eX0_init_131, eX0_init_133, eX0_init_136, eX0_init_137, eX0_init_138, eX0_init_140, eX0_init_143, eX0_init_144, eX0_init_145, eX0_init_147, eX0_init_150, eX0_init_151, eX0_init_153, eX0_init_155, eX0_init_158, eX0_init_159, eX0_init_160, eX0_init_162, eX0_init_165, tX0_init, eX0_init_in]
    exact hQ H F
  have k158 : ∀ H, zXn h 46 1372 zEd16 (zU (zU (fun _ => 0) 3 (-1)) 4 (-1)) (zU (fun _ => 0) 9 1) H → zEv mX0_init d 158 [some (zr (some 65))] [] H Q := fun H F => by
    have eN : gN H = 112 := F.1
    have kw0 : gK H 65 = (0, 0) := (F.2.2.2.2.1 65 (Or.inl (by decide))).trans hk
    have kw : gK (gNew H (1, 5) 5) 65 = (0, 0) := by rw [gK_new_ne (by omega)]; exact kw0
    have F2 : zXn h 47 1377 zEd17 (zU (zU (fun _ => 0) 3 (-1)) 4 (-1)) (zU (fun _ => 0) 9 1) (sR (gNew H (1, 5) 5) 65 23 (some 112)) := zXn_sR (zXn_new (q := 5) F (by decide) rfl rfl) (by decide) (by decide) (by decide) (by decide)
    simp (disch := (first | (simp only [gK_sI, gK_sJ, gK_sR, gK_sIA, gK_sJA, gR_sI, gR_sJ, gR_sIA, Nat.reduceLeDiff, Nat.reduceEqDiff, Nat.reduceLT, Int.reduceLE, Int.reduceLT, Int.reduceEq, zWt_i, zWt_l, zWt_r, zWt_n, kw0, kw, eN] <;> omega) | omega | fail)) only [if_pos, if_neg, wI_id, zLc_lt, zLc_gt, zLc_eq, zLc_le, zLc_ge, Int.reduceEq, Int.reduceLE, Int.reduceLT, Int.reduceNeg, Int.reduceAdd, Int.reduceMul, Int.reduceSub, not_true_eq_false, not_false_eq_true, reduceIte, zPo_v, zPo_n, zPo_t, zKl_i, zKl_r, zKl_n, zKl_l, gK_sI, gK_sJ, gK_sR, gK_sIA, gK_sJA, gR_sI, gR_sJ, gJ_sI, gI_sJ, gI_sR, gJ_sR, gR_sIA, gJ_sIA, Nat.reduceLeDiff, Nat.reduceEqDiff, and_self, and_true, true_and, and_false, false_and, eX0_init_0, eX0_init_1, eX0_init_4, eX0_init_5, eX0_init_6, eX0_init_9, eX0_init_10, eX0_init_11, eX0_init_14, eX0_init_15, eX0_init_18, eX0_init_19, eX0_init_20, eX0_init_21, eX0_init_24, eX0_init_25, eX0_init_28, eX0_init_29, eX0_init_30, eX0_init_31, eX0_init_34, eX0_init_35, eX0_init_38, eX0_init_39, eX0_init_40, eX0_init_41, eX0_init_44, eX0_init_45, eX0_init_48, eX0_init_49, eX0_init_52, eX0_init_53, eX0_init_56, eX0_init_58, eX0_init_61, eX0_init_62, eX0_init_63, eX0_init_66, eX0_init_67, eX0_init_68, eX0_init_71, eX0_init_72, eX0_init_75, eX0_init_76, eX0_init_79, eX0_init_82, eX0_init_83, eX0_init_86, eX0_init_87, eX0_init_90, eX0_init_93, eX0_init_94, eX0_init_95, eX0_init_98, eX0_init_99, eX0_init_102, eX0_init_103, eX0_init_106, eX0_init_109, eX0_init_110, eX0_init_111, eX0_init_114, eX0_init_117, eX0_init_118, eX0_init_121, eX0_init_122, eX0_init_125, eX0_init_128, eX0_init_129, eX0_init_131, eX0_init_133, eX0_init_136, eX0_init_137, eX0_init_138, eX0_init_140, eX0_init_143, eX0_init_144, eX0_init_145, eX0_init_147, eX0_init_150, eX0_init_151, eX0_init_153, eX0_init_155, eX0_init_158, eX0_init_159, eX0_init_160, eX0_init_162, tX0_init, eX0_init_in, kw0, kw, eN, Int.reduceToNat]
    exact k165 _ F2
  have k150 : ∀ H, zXn h 45 1366 zEd15 (zU (zU (fun _ => 0) 3 (-1)) 4 (-1)) (zU (fun _ => 0) 9 1) H → zEv mX0_init d 150 [some (zr (some 65))] [] H Q := fun H F => by
    have eN : gN H = 111 := F.1
    have kw0 : gK H 65 = (0, 0) := (F.2.2.2.2.1 65 (Or.inl (by decide))).trans hk
    have kw : gK (gNew H (1, 6) 6) 65 = (0, 0) := by rw [gK_new_ne (by omega)]; exact kw0
    have F2 : zXn h 46 1372 zEd16 (zU (zU (fun _ => 0) 3 (-1)) 4 (-1)) (zU (fun _ => 0) 9 1) (sR (gNew H (1, 6) 6) 65 21 (some 111)) := zXn_sR (zXn_new (q := 6) F (by decide) rfl rfl) (by decide) (by decide) (by decide) (by decide)
    simp (disch := (first | (simp only [gK_sI, gK_sJ, gK_sR, gK_sIA, gK_sJA, gR_sI, gR_sJ, gR_sIA, Nat.reduceLeDiff, Nat.reduceEqDiff, Nat.reduceLT, Int.reduceLE, Int.reduceLT, Int.reduceEq, zWt_i, zWt_l, zWt_r, zWt_n, kw0, kw, eN] <;> omega) | omega | fail)) only [if_pos, if_neg, wI_id, zLc_lt, zLc_gt, zLc_eq, zLc_le, zLc_ge, Int.reduceEq, Int.reduceLE, Int.reduceLT, Int.reduceNeg, Int.reduceAdd, Int.reduceMul, Int.reduceSub, not_true_eq_false, not_false_eq_true, reduceIte, zPo_v, zPo_n, zPo_t, zKl_i, zKl_r, zKl_n, zKl_l, gK_sI, gK_sJ, gK_sR, gK_sIA, gK_sJA, gR_sI, gR_sJ, gJ_sI, gI_sJ, gI_sR, gJ_sR, gR_sIA, gJ_sIA, Nat.reduceLeDiff, Nat.reduceEqDiff, and_self, and_true, true_and, and_false, false_and, eX0_init_0, eX0_init_1, eX0_init_4, eX0_init_5, eX0_init_6, eX0_init_9, eX0_init_10, eX0_init_11, eX0_init_14, eX0_init_15, eX0_init_18, eX0_init_19, eX0_init_20, eX0_init_21, eX0_init_24, eX0_init_25, eX0_init_28, eX0_init_29, eX0_init_30, eX0_init_31, eX0_init_34, eX0_init_35, eX0_init_38, eX0_init_39, eX0_init_40, eX0_init_41, eX0_init_44, eX0_init_45, eX0_init_48, eX0_init_49, eX0_init_52, eX0_init_53, eX0_init_56, eX0_init_58, eX0_init_61, eX0_init_62, eX0_init_63, eX0_init_66, eX0_init_67, eX0_init_68, eX0_init_71, eX0_init_72, eX0_init_75, eX0_init_76, eX0_init_79, eX0_init_82, eX0_init_83, eX0_init_86, eX0_init_87, eX0_init_90, eX0_init_93, eX0_init_94, eX0_init_95, eX0_init_98, eX0_init_99, eX0_init_102, eX0_init_103, eX0_init_106, eX0_init_109, eX0_init_110, eX0_init_111, eX0_init_114, eX0_init_117, eX0_init_118, eX0_init_121, eX0_init_122, eX0_init_125, eX0_init_128, eX0_init_129, eX0_init_131, eX0_init_133, eX0_init_136, eX0_init_137, eX0_init_138, eX0_init_140, eX0_init_143, eX0_init_144, eX0_init_145, eX0_init_147, eX0_init_150, eX0_init_151, eX0_init_153, eX0_init_155, eX0_init_159, eX0_init_160, eX0_init_162, eX0_init_165, tX0_init, eX0_init_in, kw0, kw, eN, Int.reduceToNat]
    exact k158 _ F2
  have k143 : ∀ H, zXn h 44 1364 zEd14 (zU (zU (fun _ => 0) 3 (-1)) 4 (-1)) (zU (fun _ => 0) 9 1) H → zEv mX0_init d 143 [some (zr (some 65))] [] H Q := fun H F => by
    have eN : gN H = 110 := F.1
    have kw0 : gK H 65 = (0, 0) := (F.2.2.2.2.1 65 (Or.inl (by decide))).trans hk
    have kw : gK (gNew H (1, 2) 2) 65 = (0, 0) := by rw [gK_new_ne (by omega)]; exact kw0
    have F2 : zXn h 45 1366 zEd15 (zU (zU (fun _ => 0) 3 (-1)) 4 (-1)) (zU (fun _ => 0) 9 1) (sR (gNew H (1, 2) 2) 65 19 (some 110)) := zXn_sR (zXn_new (q := 2) F (by decide) rfl rfl) (by decide) (by decide) (by decide) (by decide)
    simp (disch := (first | (simp only [gK_sI, gK_sJ, gK_sR, gK_sIA, gK_sJA, gR_sI, gR_sJ, gR_sIA, Nat.reduceLeDiff, Nat.reduceEqDiff, Nat.reduceLT, Int.reduceLE, Int.reduceLT, Int.reduceEq, zWt_i, zWt_l, zWt_r, zWt_n, kw0, kw, eN] <;> omega) | omega | fail)) only [if_pos, if_neg, wI_id, zLc_lt, zLc_gt, zLc_eq, zLc_le, zLc_ge, Int.reduceEq, Int.reduceLE, Int.reduceLT, Int.reduceNeg, Int.reduceAdd, Int.reduceMul, Int.reduceSub, not_true_eq_false, not_false_eq_true, reduceIte, zPo_v, zPo_n, zPo_t, zKl_i, zKl_r, zKl_n, zKl_l, gK_sI, gK_sJ, gK_sR, gK_sIA, gK_sJA, gR_sI, gR_sJ, gJ_sI, gI_sJ, gI_sR, gJ_sR, gR_sIA, gJ_sIA, Nat.reduceLeDiff, Nat.reduceEqDiff, and_self, and_true, true_and, and_false, false_and, eX0_init_0, eX0_init_1, eX0_init_4, eX0_init_5, eX0_init_6, eX0_init_9, eX0_init_10, eX0_init_11, eX0_init_14, eX0_init_15, eX0_init_18, eX0_init_19, eX0_init_20, eX0_init_21, eX0_init_24, eX0_init_25, eX0_init_28, eX0_init_29, eX0_init_30, eX0_init_31, eX0_init_34, eX0_init_35, eX0_init_38, eX0_init_39, eX0_init_40, eX0_init_41, eX0_init_44, eX0_init_45, eX0_init_48, eX0_init_49, eX0_init_52, eX0_init_53, eX0_init_56, eX0_init_58, eX0_init_61, eX0_init_62, eX0_init_63, eX0_init_66, eX0_init_67, eX0_init_68, eX0_init_71, eX0_init_72, eX0_init_75, eX0_init_76, eX0_init_79, eX0_init_82, eX0_init_83, eX0_init_86, eX0_init_87, eX0_init_90, eX0_init_93, eX0_init_94, eX0_init_95, eX0_init_98, eX0_init_99, eX0_init_102, eX0_init_103, eX0_init_106, eX0_init_109, eX0_init_110, eX0_init_111, eX0_init_114, eX0_init_117, eX0_init_118, eX0_init_121, eX0_init_122, eX0_init_125, eX0_init_128, eX0_init_129, eX0_init_131, eX0_init_133, eX0_init_136, eX0_init_137, eX0_init_138, eX0_init_140, eX0_init_143, eX0_init_144, eX0_init_145, eX0_init_147, eX0_init_151, eX0_init_153, eX0_init_155, eX0_init_158, eX0_init_159, eX0_init_160, eX0_init_162, eX0_init_165, tX0_init, eX0_init_in, kw0, kw, eN, Int.reduceToNat]
    exact k150 _ F2
  have k136 : ∀ H, zXn h 43 1362 zEd13 (zU (zU (fun _ => 0) 3 (-1)) 4 (-1)) (zU (fun _ => 0) 9 1) H → zEv mX0_init d 136 [some (zr (some 65))] [] H Q := fun H F => by
    have eN : gN H = 109 := F.1
    have kw0 : gK H 65 = (0, 0) := (F.2.2.2.2.1 65 (Or.inl (by decide))).trans hk
    have kw : gK (gNew H (1, 2) 2) 65 = (0, 0) := by rw [gK_new_ne (by omega)]; exact kw0
    have F2 : zXn h 44 1364 zEd14 (zU (zU (fun _ => 0) 3 (-1)) 4 (-1)) (zU (fun _ => 0) 9 1) (sR (gNew H (1, 2) 2) 65 18 (some 109)) := zXn_sR (zXn_new (q := 2) F (by decide) rfl rfl) (by decide) (by decide) (by decide) (by decide)
    simp (disch := (first | (simp only [gK_sI, gK_sJ, gK_sR, gK_sIA, gK_sJA, gR_sI, gR_sJ, gR_sIA, Nat.reduceLeDiff, Nat.reduceEqDiff, Nat.reduceLT, Int.reduceLE, Int.reduceLT, Int.reduceEq, zWt_i, zWt_l, zWt_r, zWt_n, kw0, kw, eN] <;> omega) | omega | fail)) only [if_pos, if_neg, wI_id, zLc_lt, zLc_gt, zLc_eq, zLc_le, zLc_ge, Int.reduceEq, Int.reduceLE, Int.reduceLT, Int.reduceNeg, Int.reduceAdd, Int.reduceMul, Int.reduceSub, not_true_eq_false, not_false_eq_true, reduceIte, zPo_v, zPo_n, zPo_t, zKl_i, zKl_r, zKl_n, zKl_l, gK_sI, gK_sJ, gK_sR, gK_sIA, gK_sJA, gR_sI, gR_sJ, gJ_sI, gI_sJ, gI_sR, gJ_sR, gR_sIA, gJ_sIA, Nat.reduceLeDiff, Nat.reduceEqDiff, and_self, and_true, true_and, and_false, false_and, eX0_init_0, eX0_init_1, eX0_init_4, eX0_init_5, eX0_init_6, eX0_init_9, eX0_init_10, eX0_init_11, eX0_init_14, eX0_init_15, eX0_init_18, eX0_init_19, eX0_init_20, eX0_init_21, eX0_init_24, eX0_init_25, eX0_init_28, eX0_init_29, eX0_init_30, eX0_init_31, eX0_init_34, eX0_init_35, eX0_init_38, eX0_init_39, eX0_init_40, eX0_init_41, eX0_init_44, eX0_init_45, eX0_init_48, eX0_init_49, eX0_init_52, eX0_init_53, eX0_init_56, eX0_init_58, eX0_init_61, eX0_init_62, eX0_init_63, eX0_init_66, eX0_init_67, eX0_init_68, eX0_init_71, eX0_init_72, eX0_init_75, eX0_init_76, eX0_init_79, eX0_init_82, eX0_init_83, eX0_init_86, eX0_init_87, eX0_init_90, eX0_init_93, eX0_init_94, eX0_init_95, eX0_init_98, eX0_init_99, eX0_init_102, eX0_init_103, eX0_init_106, eX0_init_109, eX0_init_110, eX0_init_111, eX0_init_114, eX0_init_117, eX0_init_118, eX0_init_121, eX0_init_122, eX0_init_125, eX0_init_128, eX0_init_129, eX0_init_131, eX0_init_133, eX0_init_136, eX0_init_137, eX0_init_138, eX0_init_140, eX0_init_144, eX0_init_145, eX0_init_147, eX0_init_150, eX0_init_151, eX0_init_153, eX0_init_155, eX0_init_158, eX0_init_159, eX0_init_160, eX0_init_162, eX0_init_165, tX0_init, eX0_init_in, kw0, kw, eN, Int.reduceToNat]
    exact k143 _ F2
  have k128 : ∀ H, zXn h 42 1322 zEd12 (zU (zU (fun _ => 0) 3 (-1)) 4 (-1)) (zU (fun _ => 0) 9 1) H → zEv mX0_init d 128 [some (zr (some 65))] [] H Q := fun H F => by
    have eN : gN H = 108 := F.1
    have kw0 : gK H 65 = (0, 0) := (F.2.2.2.2.1 65 (Or.inl (by decide))).trans hk
    have kw : gK (gNew H (1, 40) 40) 65 = (0, 0) := by rw [gK_new_ne (by omega)]; exact kw0
    have F2 : zXn h 43 1362 zEd13 (zU (zU (fun _ => 0) 3 (-1)) 4 (-1)) (zU (fun _ => 0) 9 1) (sR (gNew H (1, 40) 40) 65 17 (some 108)) := zXn_sR (zXn_new (q := 40) F (by decide) rfl rfl) (by decide) (by decide) (by decide) (by decide)
    simp (disch := (first | (simp only [gK_sI, gK_sJ, gK_sR, gK_sIA, gK_sJA, gR_sI, gR_sJ, gR_sIA, Nat.reduceLeDiff, Nat.reduceEqDiff, Nat.reduceLT, Int.reduceLE, Int.reduceLT, Int.reduceEq, zWt_i, zWt_l, zWt_r, zWt_n, kw0, kw, eN] <;> omega) | omega | fail)) only [if_pos, if_neg, wI_id, zLc_lt, zLc_gt, zLc_eq, zLc_le, zLc_ge, Int.reduceEq, Int.reduceLE, Int.reduceLT, Int.reduceNeg, Int.reduceAdd, Int.reduceMul, Int.reduceSub, not_true_eq_false, not_false_eq_true, reduceIte, zPo_v, zPo_n, zPo_t, zKl_i, zKl_r, zKl_n, zKl_l, gK_sI, gK_sJ, gK_sR, gK_sIA, gK_sJA, gR_sI, gR_sJ, gJ_sI, gI_sJ, gI_sR, gJ_sR, gR_sIA, gJ_sIA, Nat.reduceLeDiff, Nat.reduceEqDiff, and_self, and_true, true_and, and_false, false_and, eX0_init_0, eX0_init_1, eX0_init_4, eX0_init_5, eX0_init_6, eX0_init_9, eX0_init_10, eX0_init_11, eX0_init_14, eX0_init_15, eX0_init_18, eX0_init_19, eX0_init_20, eX0_init_21, eX0_init_24, eX0_init_25, eX0_init_28, eX0_init_29, eX0_init_30, eX0_init_31, eX0_init_34, eX0_init_35, eX0_init_38, eX0_init_39, eX0_init_40, eX0_init_41, eX0_init_44, eX0_init_45, eX0_init_48, eX0_init_49, eX0_init_52, eX0_init_53, eX0_init_56, eX0_init_58, eX0_init_61, eX0_init_62, eX0_init_63, eX0_init_66, eX0_init_67, eX0_init_68, eX0_init_71, eX0_init_72, eX0_init_75, eX0_init_76, eX0_init_79, eX0_init_82, eX0_init_83, eX0_init_86, eX0_init_87, eX0_init_90, eX0_init_93, eX0_init_94, eX0_init_95, eX0_init_98, eX0_init_99, eX0_init_102, eX0_init_103, eX0_init_106, eX0_init_109, eX0_init_110, eX0_init_111, eX0_init_114, eX0_init_117, eX0_init_118, eX0_init_121, eX0_init_122, eX0_init_125, eX0_init_128, eX0_init_129, eX0_init_131, eX0_init_133, eX0_init_137, eX0_init_138, eX0_init_140, eX0_init_143, eX0_init_144, eX0_init_145, eX0_init_147, eX0_init_150, eX0_init_151, eX0_init_153, eX0_init_155, eX0_init_158, eX0_init_159, eX0_init_160, eX0_init_162, eX0_init_165, tX0_init, eX0_init_in, kw0, kw, eN, Int.reduceToNat]
    exact k136 _ F2
  have k117 : ∀ H, zXn h 26 1125 zEd11 (zU (zU (fun _ => 0) 3 (-1)) 4 (-1)) (zU (fun _ => 0) 9 1) H → zEv mX0_init d 117 [some (zr (some 65))] [] H Q := fun H F => by
    have eN : gN H = 92 := F.1
    have kw0 : gK H 65 = (0, 0) := (F.2.2.2.2.1 65 (Or.inl (by decide))).trans hk
    have kn : gK (gNew H (0, 5) 21) 92 = (0, 5) := gK_new_eq eN.symm
    have eN2 : gN (gNew H (0, 5) 21) = 93 := by rw [gN_new, eN]
    simp (disch := (first | (simp only [gK_sI, gK_sJ, gK_sR, gK_sIA, gK_sJA, gR_sI, gR_sJ, gR_sIA, Nat.reduceLeDiff, Nat.reduceEqDiff, Nat.reduceLT, Int.reduceLE, Int.reduceLT, Int.reduceEq, zWt_i, zWt_l, zWt_r, zWt_n, kw0, eN, kn] <;> omega) | omega | fail)) only [if_pos, if_neg, wI_id, zLc_lt, zLc_gt, zLc_eq, zLc_le, zLc_ge, Int.reduceEq, Int.reduceLE, Int.reduceLT, Int.reduceNeg, Int.reduceAdd, Int.reduceMul, Int.reduceSub, not_true_eq_false, not_false_eq_true, reduceIte, zPo_v, zPo_n, zPo_t, zKl_i, zKl_r, zKl_n, zKl_l, gK_sI, gK_sJ, gK_sR, gK_sIA, gK_sJA, gR_sI, gR_sJ, gJ_sI, gI_sJ, gI_sR, gJ_sR, gR_sIA, gJ_sIA, Nat.reduceLeDiff, Nat.reduceEqDiff, and_self, and_true, true_and, and_false, false_and, eX0_init_0, eX0_init_1, eX0_init_4, eX0_init_5, eX0_init_6, eX0_init_9, eX0_init_10, eX0_init_11, eX0_init_14, eX0_init_15, eX0_init_18, eX0_init_19, eX0_init_20, eX0_init_21, eX0_init_24, eX0_init_25, eX0_init_28, eX0_init_29, eX0_init_30, eX0_init_31, eX0_init_34, eX0_init_35, eX0_init_38, eX0_init_39, eX0_init_40, eX0_init_41, eX0_init_44, eX0_init_45, eX0_init_48, eX0_init_49, eX0_init_52, eX0_init_53, eX0_init_56, eX0_init_58, eX0_init_61, eX0_init_62, eX0_init_63, eX0_init_66, eX0_init_67, eX0_init_68, eX0_init_71, eX0_init_72, eX0_init_75, eX0_init_76, eX0_init_79, eX0_init_82, eX0_init_83, eX0_init_86, eX0_init_87, eX0_init_90, eX0_init_93, eX0_init_94, eX0_init_95, eX0_init_98, eX0_init_99, eX0_init_102, eX0_init_103, eX0_init_106, eX0_init_109, eX0_init_110, eX0_init_111, eX0_init_114, eX0_init_117, eX0_init_118, eX0_init_121, eX0_init_122, eX0_init_125, eX0_init_129, eX0_init_131, eX0_init_133, eX0_init_136, eX0_init_137, eX0_init_138, eX0_init_140, eX0_init_143, eX0_init_144, eX0_init_145, eX0_init_147, eX0_init_150, eX0_init_151, eX0_init_153, eX0_init_155, eX0_init_158, eX0_init_159, eX0_init_160, eX0_init_162, eX0_init_165, tX0_init, eX0_init_in, kw0, eN, kn]
    refine kX5_init (by decide) kn eN2 (fun H' W => ?_)
    have Fa : zXn h 27 1146 zEd11 (zU (zU (fun _ => 0) 3 (-1)) 4 (-1)) (zU (fun _ => 0) 9 1) (gNew H (0, 5) 21) := zXn_new (q := 21) F (by decide) rfl rfl
    have Fc : zXn h 42 1322 zEd11 (zU (zU (fun _ => 0) 3 (-1)) 4 (-1)) (zU (fun _ => 0) 9 1) H' := zXn_w Fa (Or.inr ⟨rfl, rfl⟩) (fun b b0 b1 => by
      have hb : b = 93 ∨ b = 94 ∨ b = 95 ∨ b = 96 ∨ b = 97 ∨ b = 98 ∨ b = 99 ∨ b = 100 ∨ b = 101 ∨ b = 102 ∨ b = 103 ∨ b = 104 ∨ b = 105 ∨ b = 106 ∨ b = 107 := by omega
      obtain rfl | rfl | rfl | rfl | rfl | rfl | rfl | rfl | rfl | rfl | rfl | rfl | rfl | rfl | rfl := hb <;> rfl) W
    have kw : gK H' 65 = (0, 0) := (Fc.2.2.2.2.1 65 (Or.inl (by decide))).trans hk
    have F2 : zXn h 42 1322 zEd12 (zU (zU (fun _ => 0) 3 (-1)) 4 (-1)) (zU (fun _ => 0) 9 1) (sR H' 65 13 (some 92)) := zXn_sR Fc (by decide) (by decide) (by decide) (by decide)
    simp (disch := (first | (simp only [gK_sI, gK_sJ, gK_sR, gK_sIA, gK_sJA, gR_sI, gR_sJ, gR_sIA, Nat.reduceLeDiff, Nat.reduceEqDiff, Nat.reduceLT, Int.reduceLE, Int.reduceLT, Int.reduceEq, zWt_i, zWt_l, zWt_r, zWt_n, kw] <;> omega) | omega | fail)) only [if_pos, if_neg, wI_id, zLc_lt, zLc_gt, zLc_eq, zLc_le, zLc_ge, Int.reduceEq, Int.reduceLE, Int.reduceLT, Int.reduceNeg, Int.reduceAdd, Int.reduceMul, Int.reduceSub, not_true_eq_false, not_false_eq_true, reduceIte, zPo_v, zPo_n, zPo_t, zKl_i, zKl_r, zKl_n, zKl_l, gK_sI, gK_sJ, gK_sR, gK_sIA, gK_sJA, gR_sI, gR_sJ, gJ_sI, gI_sJ, gI_sR, gJ_sR, gR_sIA, gJ_sIA, Nat.reduceLeDiff, Nat.reduceEqDiff, and_self, and_true, true_and, and_false, false_and, eX0_init_0, eX0_init_1, eX0_init_4, eX0_init_5, eX0_init_6, eX0_init_9, eX0_init_10, eX0_init_11, eX0_init_14, eX0_init_15, eX0_init_18, eX0_init_19, eX0_init_20, eX0_init_21, eX0_init_24, eX0_init_25, eX0_init_28, eX0_init_29, eX0_init_30, eX0_init_31, eX0_init_34, eX0_init_35, eX0_init_38, eX0_init_39, eX0_init_40, eX0_init_41, eX0_init_44, eX0_init_45, eX0_init_48, eX0_init_49, eX0_init_52, eX0_init_53, eX0_init_56, eX0_init_58, eX0_init_61, eX0_init_62, eX0_init_63, eX0_init_66, eX0_init_67, eX0_init_68, eX0_init_71, eX0_init_72, eX0_init_75, eX0_init_76, eX0_init_79, eX0_init_82, eX0_init_83, eX0_init_86, eX0_init_87, eX0_init_90, eX0_init_93, eX0_init_94, eX0_init_95, eX0_init_98, eX0_init_99, eX0_init_102, eX0_init_103, eX0_init_106, eX0_init_109, eX0_init_110, eX0_init_111, eX0_init_114, eX0_init_117, eX0_init_118, eX0_init_121, eX0_init_122, eX0_init_125, eX0_init_129, eX0_init_131, eX0_init_133, eX0_init_136, eX0_init_137, eX0_init_138, eX0_init_140, eX0_init_143, eX0_init_144, eX0_init_145, eX0_init_147, eX0_init_150, eX0_init_151, eX0_init_153, eX0_init_155, eX0_init_158, eX0_init_159, eX0_init_160, eX0_init_162, eX0_init_165, tX0_init, eX0_init_in, kw]
    exact k128 _ F2
  have k109 : ∀ H, zXn h 25 1122 zEd10 (zU (zU (fun _ => 0) 3 (-1)) 4 (-1)) (zU (fun _ => 0) 9 1) H → zEv mX0_init d 109 [some (zr (some 65))] [] H Q := fun H F => by
    have eN : gN H = 91 := F.1
    have kw0 : gK H 65 = (0, 0) := (F.2.2.2.2.1 65 (Or.inl (by decide))).trans hk
    have kw : gK (gNew H (10, 3) 3) 65 = (0, 0) := by rw [gK_new_ne (by omega)]; exact kw0
    have F2 : zXn h 26 1125 zEd11 (zU (zU (fun _ => 0) 3 (-1)) 4 (-1)) (zU (fun _ => 0) 9 1) (sR (gNew H (10, 3) 3) 65 11 (some 91)) := zXn_sR (zXn_new (q := 3) F (by decide) rfl rfl) (by decide) (by decide) (by decide) (by decide)
    simp (disch := (first | (simp only [gK_sI, gK_sJ, gK_sR, gK_sIA, gK_sJA, gR_sI, gR_sJ, gR_sIA, Nat.reduceLeDiff, Nat.reduceEqDiff, Nat.reduceLT, Int.reduceLE, Int.reduceLT, Int.reduceEq, zWt_i, zWt_l, zWt_r, zWt_n, kw0, kw, eN] <;> omega) | omega | fail)) only [if_pos, if_neg, wI_id, zLc_lt, zLc_gt, zLc_eq, zLc_le, zLc_ge, Int.reduceEq, Int.reduceLE, Int.reduceLT, Int.reduceNeg, Int.reduceAdd, Int.reduceMul, Int.reduceSub, not_true_eq_false, not_false_eq_true, reduceIte, zPo_v, zPo_n, zPo_t, zKl_i, zKl_r, zKl_n, zKl_l, gK_sI, gK_sJ, gK_sR, gK_sIA, gK_sJA, gR_sI, gR_sJ, gJ_sI, gI_sJ, gI_sR, gJ_sR, gR_sIA, gJ_sIA, Nat.reduceLeDiff, Nat.reduceEqDiff, and_self, and_true, true_and, and_false, false_and, eX0_init_0, eX0_init_1, eX0_init_4, eX0_init_5, eX0_init_6, eX0_init_9, eX0_init_10, eX0_init_11, eX0_init_14, eX0_init_15, eX0_init_18, eX0_init_19, eX0_init_20, eX0_init_21, eX0_init_24, eX0_init_25, eX0_init_28, eX0_init_29, eX0_init_30, eX0_init_31, eX0_init_34, eX0_init_35, eX0_init_38, eX0_init_39, eX0_init_40, eX0_init_41, eX0_init_44, eX0_init_45, eX0_init_48, eX0_init_49, eX0_init_52, eX0_init_53, eX0_init_56, eX0_init_58, eX0_init_61, eX0_init_62, eX0_init_63, eX0_init_66, eX0_init_67, eX0_init_68, eX0_init_71, eX0_init_72, eX0_init_75, eX0_init_76, eX0_init_79, eX0_init_82, eX0_init_83, eX0_init_86, eX0_init_87, eX0_init_90, eX0_init_93, eX0_init_94, eX0_init_95, eX0_init_98, eX0_init_99, eX0_init_102, eX0_init_103, eX0_init_106, eX0_init_109, eX0_init_110, eX0_init_111, eX0_init_114, eX0_init_118, eX0_init_121, eX0_init_122, eX0_init_125, eX0_init_128, eX0_init_129, eX0_init_131, eX0_init_133, eX0_init_136, eX0_init_137, eX0_init_138, eX0_init_140, eX0_init_143, eX0_init_144, eX0_init_145, eX0_init_147, eX0_init_150, eX0_init_151, eX0_init_153, eX0_init_155, eX0_init_158, eX0_init_159, eX0_init_160, eX0_init_162, eX0_init_165, tX0_init, eX0_init_in, kw0, kw, eN, Int.reduceToNat]
    exact k117 _ F2
  have k98 : ∀ H, zXn h 8 923 zEd8 (zU (zU (fun _ => 0) 3 (-1)) 4 (-1)) (zU (fun _ => 0) 9 1) H → zEv mX0_init d 98 [some (zr (some 65))] [] H Q := fun H F => by
    have eN : gN H = 74 := F.1
    have kw0 : gK H 65 = (0, 0) := (F.2.2.2.2.1 65 (Or.inl (by decide))).trans hk
    have kn : gK (gNew H (0, 4) 2) 74 = (0, 4) := gK_new_eq eN.symm
    have eN2 : gN (gNew H (0, 4) 2) = 75 := by rw [gN_new, eN]
    simp (disch := (first | (simp only [gK_sI, gK_sJ, gK_sR, gK_sIA, gK_sJA, gR_sI, gR_sJ, gR_sIA, Nat.reduceLeDiff, Nat.reduceEqDiff, Nat.reduceLT, Int.reduceLE, Int.reduceLT, Int.reduceEq, zWt_i, zWt_l, zWt_r, zWt_n, kw0, eN, kn] <;> omega) | omega | fail)) only [if_pos, if_neg, wI_id, zLc_lt, zLc_gt, zLc_eq, zLc_le, zLc_ge, Int.reduceEq, Int.reduceLE, Int.reduceLT, Int.reduceNeg, Int.reduceAdd, Int.reduceMul, Int.reduceSub, not_true_eq_false, not_false_eq_true, reduceIte, zPo_v, zPo_n, zPo_t, zKl_i, zKl_r, zKl_n, zKl_l, gK_sI, gK_sJ, gK_sR, gK_sIA, gK_sJA, gR_sI, gR_sJ, gJ_sI, gI_sJ, gI_sR, gJ_sR, gR_sIA, gJ_sIA, Nat.reduceLeDiff, Nat.reduceEqDiff, and_self, and_true, true_and, and_false, false_and, eX0_init_0, eX0_init_1, eX0_init_4, eX0_init_5, eX0_init_6, eX0_init_9, eX0_init_10, eX0_init_11, eX0_init_14, eX0_init_15, eX0_init_18, eX0_init_19, eX0_init_20, eX0_init_21, eX0_init_24, eX0_init_25, eX0_init_28, eX0_init_29, eX0_init_30, eX0_init_31, eX0_init_34, eX0_init_35, eX0_init_38, eX0_init_39, eX0_init_40, eX0_init_41, eX0_init_44, eX0_init_45, eX0_init_48, eX0_init_49, eX0_init_52, eX0_init_53, eX0_init_56, eX0_init_58, eX0_init_61, eX0_init_62, eX0_init_63, eX0_init_66, eX0_init_67, eX0_init_68, eX0_init_71, eX0_init_72, eX0_init_75, eX0_init_76, eX0_init_79, eX0_init_82, eX0_init_83, eX0_init_86, eX0_init_87, eX0_init_90, eX0_init_93, eX0_init_94, eX0_init_95, eX0_init_98, eX0_init_99, eX0_init_102, eX0_init_103, eX0_init_106, eX0_init_110, eX0_init_111, eX0_init_114, eX0_init_117, eX0_init_118, eX0_init_121, eX0_init_122, eX0_init_125, eX0_init_128, eX0_init_129, eX0_init_131, eX0_init_133, eX0_init_136, eX0_init_137, eX0_init_138, eX0_init_140, eX0_init_143, eX0_init_144, eX0_init_145, eX0_init_147, eX0_init_150, eX0_init_151, eX0_init_153, eX0_init_155, eX0_init_158, eX0_init_159, eX0_init_160, eX0_init_162, eX0_init_165, tX0_init, eX0_init_in, kw0, eN, kn]
    refine kX4_init (by decide) kn eN2 (fun H' W => ?_)
    have Fa : zXn h 9 925 zEd8 (zU (zU (fun _ => 0) 3 (-1)) 4 (-1)) (zU (fun _ => 0) 9 1) (gNew H (0, 4) 2) := zXn_new (q := 2) F (by decide) rfl rfl
    have Fb : zXn h 10 946 zEd8 (zU (zU (fun _ => 0) 3 (-1)) 4 (-1)) (zU (fun _ => 0) 9 1) (gNew (gNew H (0, 4) 2) (0, 5) 21) := zXn_new (q := 21) Fa (by decide) rfl rfl
    have Fc : zXn h 25 1122 zEd8 (zU (zU (fun _ => 0) 3 (-1)) 4 (-1)) (zU (fun _ => 0) 9 1) H' := zXn_w Fb (Or.inl ⟨rfl, rfl⟩) (fun b b0 b1 => by
      have hb : b = 76 ∨ b = 77 ∨ b = 78 ∨ b = 79 ∨ b = 80 ∨ b = 81 ∨ b = 82 ∨ b = 83 ∨ b = 84 ∨ b = 85 ∨ b = 86 ∨ b = 87 ∨ b = 88 ∨ b = 89 ∨ b = 90 := by omega
      obtain rfl | rfl | rfl | rfl | rfl | rfl | rfl | rfl | rfl | rfl | rfl | rfl | rfl | rfl | rfl := hb <;> rfl) W
    have Fd : zXn h 25 1122 (zEu zEd8 74 0 (some 75)) (zU (zU (fun _ => 0) 3 (-1)) 4 (-1)) (zU (fun _ => 0) 9 1) (sR H' 74 0 (some 75)) := zXn_sR Fc (by decide) (by decide) (by decide) (by decide)
    have kw : gK H' 65 = (0, 0) := (Fc.2.2.2.2.1 65 (Or.inl (by decide))).trans hk
    have F2 : zXn h 25 1122 zEd10 (zU (zU (fun _ => 0) 3 (-1)) 4 (-1)) (zU (fun _ => 0) 9 1) (sR (sR H' 74 0 (some 75)) 65 10 (some 74)) := zXn_sR Fd (by decide) (by decide) (by decide) (by decide)
    simp (disch := (first | (simp only [gK_sI, gK_sJ, gK_sR, gK_sIA, gK_sJA, gR_sI, gR_sJ, gR_sIA, Nat.reduceLeDiff, Nat.reduceEqDiff, Nat.reduceLT, Int.reduceLE, Int.reduceLT, Int.reduceEq, zWt_i, zWt_l, zWt_r, zWt_n, kw] <;> omega) | omega | fail)) only [if_pos, if_neg, wI_id, zLc_lt, zLc_gt, zLc_eq, zLc_le, zLc_ge, Int.reduceEq, Int.reduceLE, Int.reduceLT, Int.reduceNeg, Int.reduceAdd, Int.reduceMul, Int.reduceSub, not_true_eq_false, not_false_eq_true, reduceIte, zPo_v, zPo_n, zPo_t, zKl_i, zKl_r, zKl_n, zKl_l, gK_sI, gK_sJ, gK_sR, gK_sIA, gK_sJA, gR_sI, gR_sJ, gJ_sI, gI_sJ, gI_sR, gJ_sR, gR_sIA, gJ_sIA, Nat.reduceLeDiff, Nat.reduceEqDiff, and_self, and_true, true_and, and_false, false_and, eX0_init_0, eX0_init_1, eX0_init_4, eX0_init_5, eX0_init_6, eX0_init_9, eX0_init_10, eX0_init_11, eX0_init_14, eX0_init_15, eX0_init_18, eX0_init_19, eX0_init_20, eX0_init_21, eX0_init_24, eX0_init_25, eX0_init_28, eX0_init_29, eX0_init_30, eX0_init_31, eX0_init_34, eX0_init_35, eX0_init_38, eX0_init_39, eX0_init_40, eX0_init_41, eX0_init_44, eX0_init_45, eX0_init_48, eX0_init_49, eX0_init_52, eX0_init_53, eX0_init_56, eX0_init_58, eX0_init_61, eX0_init_62, eX0_init_63, eX0_init_66, eX0_init_67, eX0_init_68, eX0_init_71, eX0_init_72, eX0_init_75, eX0_init_76, eX0_init_79, eX0_init_82, eX0_init_83, eX0_init_86, eX0_init_87, eX0_init_90, eX0_init_93, eX0_init_94, eX0_init_95, eX0_init_98, eX0_init_99, eX0_init_102, eX0_init_103, eX0_init_106, eX0_init_110, eX0_init_111, eX0_init_114, eX0_init_117, eX0_init_118, eX0_init_121, eX0_init_122, eX0_init_125, eX0_init_128, eX0_init_129, eX0_init_131, eX0_init_133, eX0_init_136, eX0_init_137, eX0_init_138, eX0_init_140, eX0_init_143, eX0_init_144, eX0_init_145, eX0_init_147, eX0_init_150, eX0_init_151, eX0_init_153, eX0_init_155, eX0_init_158, eX0_init_159, eX0_init_160, eX0_init_162, eX0_init_165, tX0_init, eX0_init_in, kw]
    exact k109 _ F2
  have k93 : ∀ H, zXn h 8 923 zEd8 (zU (zU (fun _ => 0) 3 (-1)) 4 (-1)) (fun _ => 0) H → zEv mX0_init d 93 [some (zr (some 65))] [] H Q := fun H F => by
    have eN : gN H = 74 := F.1
    have kw0 : gK H 65 = (0, 0) := (F.2.2.2.2.1 65 (Or.inl (by decide))).trans hk
    have F2 : zXn h 8 923 zEd8 (zU (zU (fun _ => 0) 3 (-1)) 4 (-1)) (zU (fun _ => 0) 9 1) (sJ H 65 9 1) := zXn_sJ F
    simp (disch := (first | (simp only [gK_sI, gK_sJ, gK_sR, gK_sIA, gK_sJA, gR_sI, gR_sJ, gR_sIA, Nat.reduceLeDiff, Nat.reduceEqDiff, Nat.reduceLT, Int.reduceLE, Int.reduceLT, Int.reduceEq, zWt_i, zWt_l, zWt_r, zWt_n, kw0] <;> omega) | omega | fail)) only [if_pos, if_neg, wI_id, zLc_lt, zLc_gt, zLc_eq, zLc_le, zLc_ge, Int.reduceEq, Int.reduceLE, Int.reduceLT, Int.reduceNeg, Int.reduceAdd, Int.reduceMul, Int.reduceSub, not_true_eq_false, not_false_eq_true, reduceIte, zPo_v, zPo_n, zPo_t, zKl_i, zKl_r, zKl_n, zKl_l, gK_sI, gK_sJ, gK_sR, gK_sIA, gK_sJA, gR_sI, gR_sJ, gJ_sI, gI_sJ, gI_sR, gJ_sR, gR_sIA, gJ_sIA, Nat.reduceLeDiff, Nat.reduceEqDiff, and_self, and_true, true_and, and_false, false_and, eX0_init_0, eX0_init_1, eX0_init_4, eX0_init_5, eX0_init_6, eX0_init_9, eX0_init_10, eX0_init_11, eX0_init_14, eX0_init_15, eX0_init_18, eX0_init_19, eX0_init_20, eX0_init_21, eX0_init_24, eX0_init_25, eX0_init_28, eX0_init_29, eX0_init_30, eX0_init_31, eX0_init_34, eX0_init_35, eX0_init_38, eX0_init_39, eX0_init_40, eX0_init_41, eX0_init_44, eX0_init_45, eX0_init_48, eX0_init_49, eX0_init_52, eX0_init_53, eX0_init_56, eX0_init_58, eX0_init_61, eX0_init_62, eX0_init_63, eX0_init_66, eX0_init_67, eX0_init_68, eX0_init_71, eX0_init_72, eX0_init_75, eX0_init_76, eX0_init_79, eX0_init_82, eX0_init_83, eX0_init_86, eX0_init_87, eX0_init_90, eX0_init_93, eX0_init_94, eX0_init_95, eX0_init_99, eX0_init_102, eX0_init_103, eX0_init_106, eX0_init_109, eX0_init_110, eX0_init_111, eX0_init_114, eX0_init_117, eX0_init_118, eX0_init_121, eX0_init_122, eX0_init_125, eX0_init_128, eX0_init_129, eX0_init_131, eX0_init_133, eX0_init_136, eX0_init_137, eX0_init_138, eX0_init_140, eX0_init_143, eX0_init_144, eX0_init_145, eX0_init_147, eX0_init_150, eX0_init_151, eX0_init_153, eX0_init_155, eX0_init_158, eX0_init_159, eX0_init_160, eX0_init_162, eX0_init_165, tX0_init, eX0_init_in, kw0]
    exact k98 _ F2
  have k82 : ∀ H, zXn h 7 916 zEd7 (zU (zU (fun _ => 0) 3 (-1)) 4 (-1)) (fun _ => 0) H → zEv mX0_init d 82 [some (zr (some 65))] [] H Q := fun H F => by
    have eN : gN H = 73 := F.1
    have kw0 : gK H 65 = (0, 0) := (F.2.2.2.2.1 65 (Or.inl (by decide))).trans hk
    have kn : gK (gNew H (0, 3) 7) 73 = (0, 3) := gK_new_eq eN.symm
    have kw : gK (gNew H (0, 3) 7) 65 = (0, 0) := by rw [gK_new_ne (by omega)]; exact kw0
    have F2 : zXn h 8 923 zEd8 (zU (zU (fun _ => 0) 3 (-1)) 4 (-1)) (fun _ => 0) (sR (gNew H (0, 3) 7) 65 6 (some 73)) := zXn_sR (zXn_new (q := 7) F (by decide) rfl rfl) (by decide) (by decide) (by decide) (by decide)
    simp (disch := (first | (simp only [gK_sI, gK_sJ, gK_sR, gK_sIA, gK_sJA, gR_sI, gR_sJ, gR_sIA, Nat.reduceLeDiff, Nat.reduceEqDiff, Nat.reduceLT, Int.reduceLE, Int.reduceLT, Int.reduceEq, zWt_i, zWt_l, zWt_r, zWt_n, kw0, eN, kn, kw] <;> omega) | omega | fail)) only [if_pos, if_neg, wI_id, zLc_lt, zLc_gt, zLc_eq, zLc_le, zLc_ge, Int.reduceEq, Int.reduceLE, Int.reduceLT, Int.reduceNeg, Int.reduceAdd, Int.reduceMul, Int.reduceSub, not_true_eq_false, not_false_eq_true, reduceIte, zPo_v, zPo_n, zPo_t, zKl_i, zKl_r, zKl_n, zKl_l, gK_sI, gK_sJ, gK_sR, gK_sIA, gK_sJA, gR_sI, gR_sJ, gJ_sI, gI_sJ, gI_sR, gJ_sR, gR_sIA, gJ_sIA, Nat.reduceLeDiff, Nat.reduceEqDiff, and_self, and_true, true_and, and_false, false_and, eX0_init_0, eX0_init_1, eX0_init_4, eX0_init_5, eX0_init_6, eX0_init_9, eX0_init_10, eX0_init_11, eX0_init_14, eX0_init_15, eX0_init_18, eX0_init_19, eX0_init_20, eX0_init_21, eX0_init_24, eX0_init_25, eX0_init_28, eX0_init_29, eX0_init_30, eX0_init_31, eX0_init_34, eX0_init_35, eX0_init_38, eX0_init_39, eX0_init_40, eX0_init_41, eX0_init_44, eX0_init_45, eX0_init_48, eX0_init_49, eX0_init_52, eX0_init_53, eX0_init_56, eX0_init_58, eX0_init_61, eX0_init_62, eX0_init_63, eX0_init_66, eX0_init_67, eX0_init_68, eX0_init_71, eX0_init_72, eX0_init_75, eX0_init_76, eX0_init_79, eX0_init_82, eX0_init_83, eX0_init_86, eX0_init_87, eX0_init_90, eX0_init_94, eX0_init_95, eX0_init_98, eX0_init_99, eX0_init_102, eX0_init_103, eX0_init_106, eX0_init_109, eX0_init_110, eX0_init_111, eX0_init_114, eX0_init_117, eX0_init_118, eX0_init_121, eX0_init_122, eX0_init_125, eX0_init_128, eX0_init_129, eX0_init_131, eX0_init_133, eX0_init_136, eX0_init_137, eX0_init_138, eX0_init_140, eX0_init_143, eX0_init_144, eX0_init_145, eX0_init_147, eX0_init_150, eX0_init_151, eX0_init_153, eX0_init_155, eX0_init_158, eX0_init_159, eX0_init_160, eX0_init_162, eX0_init_165, tX0_init, eX0_init_in, kw0, eN, kn, kw, kX3_init (by decide) kn]
    exact k93 _ F2
  have k71 : ∀ H, zXn h 6 908 zEd6 (zU (zU (fun _ => 0) 3 (-1)) 4 (-1)) (fun _ => 0) H → zEv mX0_init d 71 [some (zr (some 65))] [] H Q := fun H F => by
    have eN : gN H = 72 := F.1
    have kw0 : gK H 65 = (0, 0) := (F.2.2.2.2.1 65 (Or.inl (by decide))).trans hk
    have kn : gK (gNew H (0, 2) 8) 72 = (0, 2) := gK_new_eq eN.symm
    have kw : gK (gNew H (0, 2) 8) 65 = (0, 0) := by rw [gK_new_ne (by omega)]; exact kw0
    have F2 : zXn h 7 916 zEd7 (zU (zU (fun _ => 0) 3 (-1)) 4 (-1)) (fun _ => 0) (sR (gNew H (0, 2) 8) 65 5 (some 72)) := zXn_sR (zXn_new (q := 8) F (by decide) rfl rfl) (by decide) (by decide) (by decide) (by decide)
    simp (disch := (first | (simp only [gK_sI, gK_sJ, gK_sR, gK_sIA, gK_sJA, gR_sI, gR_sJ, gR_sIA, Nat.reduceLeDiff, Nat.reduceEqDiff, Nat.reduceLT, Int.reduceLE, Int.reduceLT, Int.reduceEq, zWt_i, zWt_l, zWt_r, zWt_n, kw0, eN, kn, kw] <;> omega) | omega | fail)) only [if_pos, if_neg, wI_id, zLc_lt, zLc_gt, zLc_eq, zLc_le, zLc_ge, Int.reduceEq, Int.reduceLE, Int.reduceLT, Int.reduceNeg, Int.reduceAdd, Int.reduceMul, Int.reduceSub, not_true_eq_false, not_false_eq_true, reduceIte, zPo_v, zPo_n, zPo_t, zKl_i, zKl_r, zKl_n, zKl_l, gK_sI, gK_sJ, gK_sR, gK_sIA, gK_sJA, gR_sI, gR_sJ, gJ_sI, gI_sJ, gI_sR, gJ_sR, gR_sIA, gJ_sIA, Nat.reduceLeDiff, Nat.reduceEqDiff, and_self, and_true, true_and, and_false, false_and, eX0_init_0, eX0_init_1, eX0_init_4, eX0_init_5, eX0_init_6, eX0_init_9, eX0_init_10, eX0_init_11, eX0_init_14, eX0_init_15, eX0_init_18, eX0_init_19, eX0_init_20, eX0_init_21, eX0_init_24, eX0_init_25, eX0_init_28, eX0_init_29, eX0_init_30, eX0_init_31, eX0_init_34, eX0_init_35, eX0_init_38, eX0_init_39, eX0_init_40, eX0_init_41, eX0_init_44, eX0_init_45, eX0_init_48, eX0_init_49, eX0_init_52, eX0_init_53, eX0_init_56, eX0_init_58, eX0_init_61, eX0_init_62, eX0_init_63, eX0_init_66, eX0_init_67, eX0_init_68, eX0_init_71, eX0_init_72, eX0_init_75, eX0_init_76, eX0_init_79, eX0_init_83, eX0_init_86, eX0_init_87, eX0_init_90, eX0_init_93, eX0_init_94, eX0_init_95, eX0_init_98, eX0_init_99, eX0_init_102, eX0_init_103, eX0_init_106, eX0_init_109, eX0_init_110, eX0_init_111, eX0_init_114, eX0_init_117, eX0_init_118, eX0_init_121, eX0_init_122, eX0_init_125, eX0_init_128, eX0_init_129, eX0_init_131, eX0_init_133, eX0_init_136, eX0_init_137, eX0_init_138, eX0_init_140, eX0_init_143, eX0_init_144, eX0_init_145, eX0_init_147, eX0_init_150, eX0_init_151, eX0_init_153, eX0_init_155, eX0_init_158, eX0_init_159, eX0_init_160, eX0_init_162, eX0_init_165, tX0_init, eX0_init_in, kw0, eN, kn, kw, kX2_init (by decide) kn]
    exact k82 _ F2
  have k66 : ∀ H, zXn h 6 908 zEd6 (zU (fun _ => 0) 3 (-1)) (fun _ => 0) H → zEv mX0_init d 66 [some (zr (some 65))] [] H Q := fun H F => by
    have eN : gN H = 72 := F.1
    have kw0 : gK H 65 = (0, 0) := (F.2.2.2.2.1 65 (Or.inl (by decide))).trans hk
    have F2 : zXn h 6 908 zEd6 (zU (zU (fun _ => 0) 3 (-1)) 4 (-1)) (fun _ => 0) (sI H 65 4 (-1)) := zXn_sI F
    simp (disch := (first | (simp only [gK_sI, gK_sJ, gK_sR, gK_sIA, gK_sJA, gR_sI, gR_sJ, gR_sIA, Nat.reduceLeDiff, Nat.reduceEqDiff, Nat.reduceLT, Int.reduceLE, Int.reduceLT, Int.reduceEq, zWt_i, zWt_l, zWt_r, zWt_n, kw0] <;> omega) | omega | fail)) only [if_pos, if_neg, wI_id, zLc_lt, zLc_gt, zLc_eq, zLc_le, zLc_ge, Int.reduceEq, Int.reduceLE, Int.reduceLT, Int.reduceNeg, Int.reduceAdd, Int.reduceMul, Int.reduceSub, not_true_eq_false, not_false_eq_true, reduceIte, zPo_v, zPo_n, zPo_t, zKl_i, zKl_r, zKl_n, zKl_l, gK_sI, gK_sJ, gK_sR, gK_sIA, gK_sJA, gR_sI, gR_sJ, gJ_sI, gI_sJ, gI_sR, gJ_sR, gR_sIA, gJ_sIA, Nat.reduceLeDiff, Nat.reduceEqDiff, and_self, and_true, true_and, and_false, false_and, eX0_init_0, eX0_init_1, eX0_init_4, eX0_init_5, eX0_init_6, eX0_init_9, eX0_init_10, eX0_init_11, eX0_init_14, eX0_init_15, eX0_init_18, eX0_init_19, eX0_init_20, eX0_init_21, eX0_init_24, eX0_init_25, eX0_init_28, eX0_init_29, eX0_init_30, eX0_init_31, eX0_init_34, eX0_init_35, eX0_init_38, eX0_init_39, eX0_init_40, eX0_init_41, eX0_init_44, eX0_init_45, eX0_init_48, eX0_init_49, eX0_init_52, eX0_init_53, eX0_init_56, eX0_init_58, eX0_init_61, eX0_init_62, eX0_init_63, eX0_init_66, eX0_init_67, eX0_init_68, eX0_init_72, eX0_init_75, eX0_init_76, eX0_init_79, eX0_init_82, eX0_init_83, eX0_init_86, eX0_init_87, eX0_init_90, eX0_init_93, eX0_init_94, eX0_init_95, eX0_init_98, eX0_init_99, eX0_init_102, eX0_init_103, eX0_init_106, eX0_init_109, eX0_init_110, eX0_init_111, eX0_init_114, eX0_init_117, eX0_init_118, eX0_init_121, eX0_init_122, eX0_init_125, eX0_init_128, eX0_init_129, eX0_init_131, eX0_init_133, eX0_init_136, eX0_init_137, eX0_init_138, eX0_init_140, eX0_init_143, eX0_init_144, eX0_init_145, eX0_init_147, eX0_init_150, eX0_init_151, eX0_init_153, eX0_init_155, eX0_init_158, eX0_init_159, eX0_init_160, eX0_init_162, eX0_init_165, tX0_init, eX0_init_in, kw0]
    exact k71 _ F2
  have k61 : ∀ H, zXn h 6 908 zEd6 (fun _ => 0) (fun _ => 0) H → zEv mX0_init d 61 [some (zr (some 65))] [] H Q := fun H F => by
    have eN : gN H = 72 := F.1
    have kw0 : gK H 65 = (0, 0) := (F.2.2.2.2.1 65 (Or.inl (by decide))).trans hk
    have F2 : zXn h 6 908 zEd6 (zU (fun _ => 0) 3 (-1)) (fun _ => 0) (sI H 65 3 (-1)) := zXn_sI F
    simp (disch := (first | (simp only [gK_sI, gK_sJ, gK_sR, gK_sIA, gK_sJA, gR_sI, gR_sJ, gR_sIA, Nat.reduceLeDiff, Nat.reduceEqDiff, Nat.reduceLT, Int.reduceLE, Int.reduceLT, Int.reduceEq, zWt_i, zWt_l, zWt_r, zWt_n, kw0] <;> omega) | omega | fail)) only [if_pos, if_neg, wI_id, zLc_lt, zLc_gt, zLc_eq, zLc_le, zLc_ge, Int.reduceEq, Int.reduceLE, Int.reduceLT, Int.reduceNeg, Int.reduceAdd, Int.reduceMul, Int.reduceSub, not_true_eq_false, not_false_eq_true, reduceIte, zPo_v, zPo_n, zPo_t, zKl_i, zKl_r, zKl_n, zKl_l, gK_sI, gK_sJ, gK_sR, gK_sIA, gK_sJA, gR_sI, gR_sJ, gJ_sI, gI_sJ, gI_sR, gJ_sR, gR_sIA, gJ_sIA, Nat.reduceLeDiff, Nat.reduceEqDiff, and_self, and_true, true_and, and_false, false_and, eX0_init_0, eX0_init_1, eX0_init_4, eX0_init_5, eX0_init_6, eX0_init_9, eX0_init_10, eX0_init_11, eX0_init_14, eX0_init_15, eX0_init_18, eX0_init_19, eX0_init_20, eX0_init_21, eX0_init_24, eX0_init_25, eX0_init_28, eX0_init_29, eX0_init_30, eX0_init_31, eX0_init_34, eX0_init_35, eX0_init_38, eX0_init_39, eX0_init_40, eX0_init_41, eX0_init_44, eX0_init_45, eX0_init_48, eX0_init_49, eX0_init_52, eX0_init_53, eX0_init_56, eX0_init_58, eX0_init_61, eX0_init_62, eX0_init_63, eX0_init_67, eX0_init_68, eX0_init_71, eX0_init_72, eX0_init_75, eX0_init_76, eX0_init_79, eX0_init_82, eX0_init_83, eX0_init_86, eX0_init_87, eX0_init_90, eX0_init_93, eX0_init_94, eX0_init_95, eX0_init_98, eX0_init_99, eX0_init_102, eX0_init_103, eX0_init_106, eX0_init_109, eX0_init_110, eX0_init_111, eX0_init_114, eX0_init_117, eX0_init_118, eX0_init_121, eX0_init_122, eX0_init_125, eX0_init_128, eX0_init_129, eX0_init_131, eX0_init_133, eX0_init_136, eX0_init_137, eX0_init_138, eX0_init_140, eX0_init_143, eX0_init_144, eX0_init_145, eX0_init_147, eX0_init_150, eX0_init_151, eX0_init_153, eX0_init_155, eX0_init_158, eX0_init_159, eX0_init_160, eX0_init_162, eX0_init_165, tX0_init, eX0_init_in, kw0]
    exact k66 _ F2
  have k52 : ∀ H, zXn h 5 8 zEd5 (fun _ => 0) (fun _ => 0) H → zEv mX0_init d 52 [some (zr (some 65))] [] H Q := fun H F => by
    have eN : gN H = 71 := F.1
    have kw0 : gK H 65 = (0, 0) := (F.2.2.2.2.1 65 (Or.inl (by decide))).trans hk
    have kw : gK (gNew H (2, 900) 900) 65 = (0, 0) := by rw [gK_new_ne (by omega)]; exact kw0
    have F2 : zXn h 6 908 zEd6 (fun _ => 0) (fun _ => 0) (sR (gNew H (2, 900) 900) 65 1 (some 71)) := zXn_sR (zXn_new (q := 900) F (by decide) rfl rfl) (by decide) (by decide) (by decide) (by decide)
    simp (disch := (first | (simp only [gK_sI, gK_sJ, gK_sR, gK_sIA, gK_sJA, gR_sI, gR_sJ, gR_sIA, Nat.reduceLeDiff, Nat.reduceEqDiff, Nat.reduceLT, Int.reduceLE, Int.reduceLT, Int.reduceEq, zWt_i, zWt_l, zWt_r, zWt_n, kw0, kw, eN] <;> omega) | omega | fail)) only [if_pos, if_neg, wI_id, zLc_lt, zLc_gt, zLc_eq, zLc_le, zLc_ge, Int.reduceEq, Int.reduceLE, Int.reduceLT, Int.reduceNeg, Int.reduceAdd, Int.reduceMul, Int.reduceSub, not_true_eq_false, not_false_eq_true, reduceIte, zPo_v, zPo_n, zPo_t, zKl_i, zKl_r, zKl_n, zKl_l, gK_sI, gK_sJ, gK_sR, gK_sIA, gK_sJA, gR_sI, gR_sJ, gJ_sI, gI_sJ, gI_sR, gJ_sR, gR_sIA, gJ_sIA, Nat.reduceLeDiff, Nat.reduceEqDiff, and_self, and_true, true_and, and_false, false_and, eX0_init_0, eX0_init_1, eX0_init_4, eX0_init_5, eX0_init_6, eX0_init_9, eX0_init_10, eX0_init_11, eX0_init_14, eX0_init_15, eX0_init_18, eX0_init_19, eX0_init_20, eX0_init_21, eX0_init_24, eX0_init_25, eX0_init_28, eX0_init_29, eX0_init_30, eX0_init_31, eX0_init_34, eX0_init_35, eX0_init_38, eX0_init_39, eX0_init_40, eX0_init_41, eX0_init_44, eX0_init_45, eX0_init_48, eX0_init_49, eX0_init_52, eX0_init_53, eX0_init_56, eX0_init_58, eX0_init_62, eX0_init_63, eX0_init_66, eX0_init_67, eX0_init_68, eX0_init_71, eX0_init_72, eX0_init_75, eX0_init_76, eX0_init_79, eX0_init_82, eX0_init_83, eX0_init_86, eX0_init_87, eX0_init_90, eX0_init_93, eX0_init_94, eX0_init_95, eX0_init_98, eX0_init_99, eX0_init_102, eX0_init_103, eX0_init_106, eX0_init_109, eX0_init_110, eX0_init_111, eX0_init_114, eX0_init_117, eX0_init_118, eX0_init_121, eX0_init_122, eX0_init_125, eX0_init_128, eX0_init_129, eX0_init_131, eX0_init_133, eX0_init_136, eX0_init_137, eX0_init_138, eX0_init_140, eX0_init_143, eX0_init_144, eX0_init_145, eX0_init_147, eX0_init_150, eX0_init_151, eX0_init_153, eX0_init_155, eX0_init_158, eX0_init_159, eX0_init_160, eX0_init_162, eX0_init_165, tX0_init, eX0_init_in, kw0, kw, eN, Int.reduceToNat]
    exact k61 _ F2
  have k49 : ∀ H, zXn h 5 8 zEd4 (fun _ => 0) (fun _ => 0) H → zEv mX0_init d 49 [some (zr (some 65))] [zr (some 66), zr (some 65)] H Q := fun H F => by
    have eN : gN H = 71 := F.1
    have kw0 : gK H 65 = (0, 0) := (F.2.2.2.2.1 65 (Or.inl (by decide))).trans hk
    have F2 : zXn h 5 8 zEd5 (fun _ => 0) (fun _ => 0) (sR H 65 0 (some 66)) := zXn_sR F (by decide) (by decide) (by decide) (by decide)
    simp (disch := (first | (simp only [gK_sI, gK_sJ, gK_sR, gK_sIA, gK_sJA, gR_sI, gR_sJ, gR_sIA, Nat.reduceLeDiff, Nat.reduceEqDiff, Nat.reduceLT, Int.reduceLE, Int.reduceLT, Int.reduceEq, zWt_i, zWt_l, zWt_r, zWt_n, kw0, eN] <;> omega) | omega | fail)) only [if_pos, if_neg, wI_id, zLc_lt, zLc_gt, zLc_eq, zLc_le, zLc_ge, Int.reduceEq, Int.reduceLE, Int.reduceLT, Int.reduceNeg, Int.reduceAdd, Int.reduceMul, Int.reduceSub, not_true_eq_false, not_false_eq_true, reduceIte, zPo_v, zPo_n, zPo_t, zKl_i, zKl_r, zKl_n, zKl_l, gK_sI, gK_sJ, gK_sR, gK_sIA, gK_sJA, gR_sI, gR_sJ, gJ_sI, gI_sJ, gI_sR, gJ_sR, gR_sIA, gJ_sIA, Nat.reduceLeDiff, Nat.reduceEqDiff, and_self, and_true, true_and, and_false, false_and, eX0_init_0, eX0_init_1, eX0_init_4, eX0_init_5, eX0_init_6, eX0_init_9, eX0_init_10, eX0_init_11, eX0_init_14, eX0_init_15, eX0_init_18, eX0_init_19, eX0_init_20, eX0_init_21, eX0_init_24, eX0_init_25, eX0_init_28, eX0_init_29, eX0_init_30, eX0_init_31, eX0_init_34, eX0_init_35, eX0_init_38, eX0_init_39, eX0_init_40, eX0_init_41, eX0_init_44, eX0_init_45, eX0_init_48, eX0_init_49, eX0_init_53, eX0_init_56, eX0_init_58, eX0_init_61, eX0_init_62, eX0_init_63, eX0_init_66, eX0_init_67, eX0_init_68, eX0_init_71, eX0_init_72, eX0_init_75, eX0_init_76, eX0_init_79, eX0_init_82, eX0_init_83, eX0_init_86, eX0_init_87, eX0_init_90, eX0_init_93, eX0_init_94, eX0_init_95, eX0_init_98, eX0_init_99, eX0_init_102, eX0_init_103, eX0_init_106, eX0_init_109, eX0_init_110, eX0_init_111, eX0_init_114, eX0_init_117, eX0_init_118, eX0_init_121, eX0_init_122, eX0_init_125, eX0_init_128, eX0_init_129, eX0_init_131, eX0_init_133, eX0_init_136, eX0_init_137, eX0_init_138, eX0_init_140, eX0_init_143, eX0_init_144, eX0_init_145, eX0_init_147, eX0_init_150, eX0_init_151, eX0_init_153, eX0_init_155, eX0_init_158, eX0_init_159, eX0_init_160, eX0_init_162, eX0_init_165, tX0_init, eX0_init_in, kw0, eN]
    exact k52 _ F2
  have k39 : ∀ H, zXn h 4 7 zEd3 (fun _ => 0) (fun _ => 0) H → zEv mX0_init d 39 [some (zr (some 65))] [zr (some 66), zr (some 65)] H Q := fun H F => by
    have eN : gN H = 70 := F.1
    have kw0 : gK H 65 = (0, 0) := (F.2.2.2.2.1 65 (Or.inl (by decide))).trans hk
    have kr : gK H 66 = (5, 4) := F.2.2.2.1 0 (by decide)
    have kn : gK (gNew H (0, 1) 1) 70 = (0, 1) := gK_new_eq eN.symm
    have kr2 : gK (gNew H (0, 1) 1) 66 = (5, 4) := by rw [gK_new_ne (by omega)]; exact kr
    have zA : zAsg 5 1 = true := rfl
    have F2 : zXn h 5 8 zEd4 (fun _ => 0) (fun _ => 0) (sR (gNew H (0, 1) 1) 66 3 (some 70)) := zXn_sR (zXn_new (q := 1) F (by decide) rfl rfl) (by decide) (by decide) (by decide) (by decide)
    simp (disch := (first | (simp only [gK_sI, gK_sJ, gK_sR, gK_sIA, gK_sJA, gR_sI, gR_sJ, gR_sIA, Nat.reduceLeDiff, Nat.reduceEqDiff, Nat.reduceLT, Int.reduceLE, Int.reduceLT, Int.reduceEq, zWt_i, zWt_l, zWt_r, zWt_n, kw0, eN, kr, kn, kr2, zA] <;> omega) | omega | fail)) only [if_pos, if_neg, wI_id, zLc_lt, zLc_gt, zLc_eq, zLc_le, zLc_ge, Int.reduceEq, Int.reduceLE, Int.reduceLT, Int.reduceNeg, Int.reduceAdd, Int.reduceMul, Int.reduceSub, not_true_eq_false, not_false_eq_true, reduceIte, zPo_v, zPo_n, zPo_t, zKl_i, zKl_r, zKl_n, zKl_l, gK_sI, gK_sJ, gK_sR, gK_sIA, gK_sJA, gR_sI, gR_sJ, gJ_sI, gI_sJ, gI_sR, gJ_sR, gR_sIA, gJ_sIA, Nat.reduceLeDiff, Nat.reduceEqDiff, and_self, and_true, true_and, and_false, false_and, eX0_init_0, eX0_init_1, eX0_init_4, eX0_init_5, eX0_init_6, eX0_init_9, eX0_init_10, eX0_init_11, eX0_init_14, eX0_init_15, eX0_init_18, eX0_init_19, eX0_init_20, eX0_init_21, eX0_init_24, eX0_init_25, eX0_init_28, eX0_init_29, eX0_init_30, eX0_init_31, eX0_init_34, eX0_init_35, eX0_init_38, eX0_init_39, eX0_init_40, eX0_init_41, eX0_init_44, eX0_init_45, eX0_init_48, eX0_init_52, eX0_init_53, eX0_init_56, eX0_init_58, eX0_init_61, eX0_init_62, eX0_init_63, eX0_init_66, eX0_init_67, eX0_init_68, eX0_init_71, eX0_init_72, eX0_init_75, eX0_init_76, eX0_init_79, eX0_init_82, eX0_init_83, eX0_init_86, eX0_init_87, eX0_init_90, eX0_init_93, eX0_init_94, eX0_init_95, eX0_init_98, eX0_init_99, eX0_init_102, eX0_init_103, eX0_init_106, eX0_init_109, eX0_init_110, eX0_init_111, eX0_init_114, eX0_init_117, eX0_init_118, eX0_init_121, eX0_init_122, eX0_init_125, eX0_init_128, eX0_init_129, eX0_init_131, eX0_init_133, eX0_init_136, eX0_init_137, eX0_init_138, eX0_init_140, eX0_init_143, eX0_init_144, eX0_init_145, eX0_init_147, eX0_init_150, eX0_init_151, eX0_init_153, eX0_init_155, eX0_init_158, eX0_init_159, eX0_init_160, eX0_init_162, eX0_init_165, tX0_init, eX0_init_in, kw0, eN, kr, kn, kr2, kX1_init (by decide) kn, zA]
    exact k49 _ F2
  have k29 : ∀ H, zXn h 3 6 zEd2 (fun _ => 0) (fun _ => 0) H → zEv mX0_init d 29 [some (zr (some 65))] [zr (some 66), zr (some 65)] H Q := fun H F => by
    have eN : gN H = 69 := F.1
    have kw0 : gK H 65 = (0, 0) := (F.2.2.2.2.1 65 (Or.inl (by decide))).trans hk
    have kr : gK H 66 = (5, 4) := F.2.2.2.1 0 (by decide)
    have kn : gK (gNew H (0, 1) 1) 69 = (0, 1) := gK_new_eq eN.symm
    have kr2 : gK (gNew H (0, 1) 1) 66 = (5, 4) := by rw [gK_new_ne (by omega)]; exact kr
    have zA : zAsg 5 1 = true := rfl
    have F2 : zXn h 4 7 zEd3 (fun _ => 0) (fun _ => 0) (sR (gNew H (0, 1) 1) 66 2 (some 69)) := zXn_sR (zXn_new (q := 1) F (by decide) rfl rfl) (by decide) (by decide) (by decide) (by decide)
    simp (disch := (first | (simp only [gK_sI, gK_sJ, gK_sR, gK_sIA, gK_sJA, gR_sI, gR_sJ, gR_sIA, Nat.reduceLeDiff, Nat.reduceEqDiff, Nat.reduceLT, Int.reduceLE, Int.reduceLT, Int.reduceEq, zWt_i, zWt_l, zWt_r, zWt_n, kw0, eN, kr, kn, kr2, zA] <;> omega) | omega | fail)) only [if_pos, if_neg, wI_id, zLc_lt, zLc_gt, zLc_eq, zLc_le, zLc_ge, Int.reduceEq, Int.reduceLE, Int.reduceLT, Int.reduceNeg, Int.reduceAdd, Int.reduceMul, Int.reduceSub, not_true_eq_false, not_false_eq_true, reduceIte, zPo_v, zPo_n, zPo_t, zKl_i, zKl_r, zKl_n, zKl_l, gK_sI, gK_sJ, gK_sR, gK_sIA, gK_sJA, gR_sI, gR_sJ, gJ_sI, gI_sJ, gI_sR, gJ_sR, gR_sIA, gJ_sIA, Nat.reduceLeDiff, Nat.reduceEqDiff, and_self, and_true, true_and, and_false, false_and, eX0_init_0, eX0_init_1, eX0_init_4, eX0_init_5, eX0_init_6, eX0_init_9, eX0_init_10, eX0_init_11, eX0_init_14, eX0_init_15, eX0_init_18, eX0_init_19, eX0_init_20, eX0_init_21, eX0_init_24, eX0_init_25, eX0_init_28, eX0_init_29, eX0_init_30, eX0_init_31, eX0_init_34, eX0_init_35, eX0_init_38, eX0_init_40, eX0_init_41, eX0_init_44, eX0_init_45, eX0_init_48, eX0_init_49, eX0_init_52, eX0_init_53, eX0_init_56, eX0_init_58, eX0_init_61, eX0_init_62, eX0_init_63, eX0_init_66, eX0_init_67, eX0_init_68, eX0_init_71, eX0_init_72, eX0_init_75, eX0_init_76, eX0_init_79, eX0_init_82, eX0_init_83, eX0_init_86, eX0_init_87, eX0_init_90, eX0_init_93, eX0_init_94, eX0_init_95, eX0_init_98, eX0_init_99, eX0_init_102, eX0_init_103, eX0_init_106, eX0_init_109, eX0_init_110, eX0_init_111, eX0_init_114, eX0_init_117, eX0_init_118, eX0_init_121, eX0_init_122, eX0_init_125, eX0_init_128, eX0_init_129, eX0_init_131, eX0_init_133, eX0_init_136, eX0_init_137, eX0_init_138, eX0_init_140, eX0_init_143, eX0_init_144, eX0_init_145, eX0_init_147, eX0_init_150, eX0_init_151, eX0_init_153, eX0_init_155, eX0_init_158, eX0_init_159, eX0_init_160, eX0_init_162, eX0_init_165, tX0_init, eX0_init_in, kw0, eN, kr, kn, kr2, kX1_init (by decide) kn, zA]
    exact k39 _ F2
  have k19 : ∀ H, zXn h 2 5 zEd1 (fun _ => 0) (fun _ => 0) H → zEv mX0_init d 19 [some (zr (some 65))] [zr (some 66), zr (some 65)] H Q := fun H F => by
    have eN : gN H = 68 := F.1
    have kw0 : gK H 65 = (0, 0) := (F.2.2.2.2.1 65 (Or.inl (by decide))).trans hk
    have kr : gK H 66 = (5, 4) := F.2.2.2.1 0 (by decide)
    have kn : gK (gNew H (0, 1) 1) 68 = (0, 1) := gK_new_eq eN.symm
    have kr2 : gK (gNew H (0, 1) 1) 66 = (5, 4) := by rw [gK_new_ne (by omega)]; exact kr
    have zA : zAsg 5 1 = true := rfl
    have F2 : zXn h 3 6 zEd2 (fun _ => 0) (fun _ => 0) (sR (gNew H (0, 1) 1) 66 1 (some 68)) := zXn_sR (zXn_new (q := 1) F (by decide) rfl rfl) (by decide) (by decide) (by decide) (by decide)
    simp (disch := (first | (simp only [gK_sI, gK_sJ, gK_sR, gK_sIA, gK_sJA, gR_sI, gR_sJ, gR_sIA, Nat.reduceLeDiff, Nat.reduceEqDiff, Nat.reduceLT, Int.reduceLE, Int.reduceLT, Int.reduceEq, zWt_i, zWt_l, zWt_r, zWt_n, kw0, eN, kr, kn, kr2, zA] <;> omega) | omega | fail)) only [if_pos, if_neg, wI_id, zLc_lt, zLc_gt, zLc_eq, zLc_le, zLc_ge, Int.reduceEq, Int.reduceLE, Int.reduceLT, Int.reduceNeg, Int.reduceAdd, Int.reduceMul, Int.reduceSub, not_true_eq_false, not_false_eq_true, reduceIte, zPo_v, zPo_n, zPo_t, zKl_i, zKl_r, zKl_n, zKl_l, gK_sI, gK_sJ, gK_sR, gK_sIA, gK_sJA, gR_sI, gR_sJ, gJ_sI, gI_sJ, gI_sR, gJ_sR, gR_sIA, gJ_sIA, Nat.reduceLeDiff, Nat.reduceEqDiff, and_self, and_true, true_and, and_false, false_and, eX0_init_0, eX0_init_1, eX0_init_4, eX0_init_5, eX0_init_6, eX0_init_9, eX0_init_10, eX0_init_11, eX0_init_14, eX0_init_15, eX0_init_18, eX0_init_19, eX0_init_20, eX0_init_21, eX0_init_24, eX0_init_25, eX0_init_28, eX0_init_30, eX0_init_31, eX0_init_34, eX0_init_35, eX0_init_38, eX0_init_39, eX0_init_40, eX0_init_41, eX0_init_44, eX0_init_45, eX0_init_48, eX0_init_49, eX0_init_52, eX0_init_53, eX0_init_56, eX0_init_58, eX0_init_61, eX0_init_62, eX0_init_63, eX0_init_66, eX0_init_67, eX0_init_68, eX0_init_71, eX0_init_72, eX0_init_75, eX0_init_76, eX0_init_79, eX0_init_82, eX0_init_83, eX0_init_86, eX0_init_87, eX0_init_90, eX0_init_93, eX0_init_94, eX0_init_95, eX0_init_98, eX0_init_99, eX0_init_102, eX0_init_103, eX0_init_106, eX0_init_109, eX0_init_110, eX0_init_111, eX0_init_114, eX0_init_117, eX0_init_118, eX0_init_121, eX0_init_122, eX0_init_125, eX0_init_128, eX0_init_129, eX0_init_131, eX0_init_133, eX0_init_136, eX0_init_137, eX0_init_138, eX0_init_140, eX0_init_143, eX0_init_144, eX0_init_145, eX0_init_147, eX0_init_150, eX0_init_151, eX0_init_153, eX0_init_155, eX0_init_158, eX0_init_159, eX0_init_160, eX0_init_162, eX0_init_165, tX0_init, eX0_init_in, kw0, eN, kr, kn, kr2, kX1_init (by decide) kn, zA]
    exact k29 _ F2
  have k9 : ∀ H, zXn h 1 4 zEd0 (fun _ => 0) (fun _ => 0) H → zEv mX0_init d 9 [some (zr (some 65))] [zr (some 66), zr (some 65)] H Q := fun H F => by
    have eN : gN H = 67 := F.1
    have kw0 : gK H 65 = (0, 0) := (F.2.2.2.2.1 65 (Or.inl (by decide))).trans hk
    have kr : gK H 66 = (5, 4) := F.2.2.2.1 0 (by decide)
    have kn : gK (gNew H (0, 1) 1) 67 = (0, 1) := gK_new_eq eN.symm
    have kr2 : gK (gNew H (0, 1) 1) 66 = (5, 4) := by rw [gK_new_ne (by omega)]; exact kr
    have zA : zAsg 5 1 = true := rfl
    have F2 : zXn h 2 5 zEd1 (fun _ => 0) (fun _ => 0) (sR (gNew H (0, 1) 1) 66 0 (some 67)) := zXn_sR (zXn_new (q := 1) F (by decide) rfl rfl) (by decide) (by decide) (by decide) (by decide)
    simp (disch := (first | (simp only [gK_sI, gK_sJ, gK_sR, gK_sIA, gK_sJA, gR_sI, gR_sJ, gR_sIA, Nat.reduceLeDiff, Nat.reduceEqDiff, Nat.reduceLT, Int.reduceLE, Int.reduceLT, Int.reduceEq, zWt_i, zWt_l, zWt_r, zWt_n, kw0, eN, kr, kn, kr2, zA] <;> omega) | omega | fail)) only [if_pos, if_neg, wI_id, zLc_lt, zLc_gt, zLc_eq, zLc_le, zLc_ge, Int.reduceEq, Int.reduceLE, Int.reduceLT, Int.reduceNeg, Int.reduceAdd, Int.reduceMul, Int.reduceSub, not_true_eq_false, not_false_eq_true, reduceIte, zPo_v, zPo_n, zPo_t, zKl_i, zKl_r, zKl_n, zKl_l, gK_sI, gK_sJ, gK_sR, gK_sIA, gK_sJA, gR_sI, gR_sJ, gJ_sI, gI_sJ, gI_sR, gJ_sR, gR_sIA, gJ_sIA, Nat.reduceLeDiff, Nat.reduceEqDiff, and_self, and_true, true_and, and_false, false_and, eX0_init_0, eX0_init_1, eX0_init_4, eX0_init_5, eX0_init_6, eX0_init_9, eX0_init_10, eX0_init_11, eX0_init_14, eX0_init_15, eX0_init_18, eX0_init_20, eX0_init_21, eX0_init_24, eX0_init_25, eX0_init_28, eX0_init_29, eX0_init_30, eX0_init_31, eX0_init_34, eX0_init_35, eX0_init_38, eX0_init_39, eX0_init_40, eX0_init_41, eX0_init_44, eX0_init_45, eX0_init_48, eX0_init_49, eX0_init_52, eX0_init_53, eX0_init_56, eX0_init_58, eX0_init_61, eX0_init_62, eX0_init_63, eX0_init_66, eX0_init_67, eX0_init_68, eX0_init_71, eX0_init_72, eX0_init_75, eX0_init_76, eX0_init_79, eX0_init_82, eX0_init_83, eX0_init_86, eX0_init_87, eX0_init_90, eX0_init_93, eX0_init_94, eX0_init_95, eX0_init_98, eX0_init_99, eX0_init_102, eX0_init_103, eX0_init_106, eX0_init_109, eX0_init_110, eX0_init_111, eX0_init_114, eX0_init_117, eX0_init_118, eX0_init_121, eX0_init_122, eX0_init_125, eX0_init_128, eX0_init_129, eX0_init_131, eX0_init_133, eX0_init_136, eX0_init_137, eX0_init_138, eX0_init_140, eX0_init_143, eX0_init_144, eX0_init_145, eX0_init_147, eX0_init_150, eX0_init_151, eX0_init_153, eX0_init_155, eX0_init_158, eX0_init_159, eX0_init_160, eX0_init_162, eX0_init_165, tX0_init, eX0_init_in, kw0, eN, kr, kn, kr2, kX1_init (by decide) kn, zA]
    exact k19 _ F2
  have k4 : ∀ H, zXn h 0 0 zEd0 (fun _ => 0) (fun _ => 0) H → zEv mX0_init d 4 [some (zr (some 65))] [] H Q := fun H F => by
    have eN : gN H = 66 := F.1
    have kw0 : gK H 65 = (0, 0) := (F.2.2.2.2.1 65 (Or.inl (by decide))).trans hk
    have F2 : zXn h 1 4 zEd0 (fun _ => 0) (fun _ => 0) (gNew H (5, 4) 4) := zXn_new (q := 4) F (by decide) rfl rfl
    simp (disch := (first | (simp only [gK_sI, gK_sJ, gK_sR, gK_sIA, gK_sJA, gR_sI, gR_sJ, gR_sIA, Nat.reduceLeDiff, Nat.reduceEqDiff, Nat.reduceLT, Int.reduceLE, Int.reduceLT, Int.reduceEq, zWt_i, zWt_l, zWt_r, zWt_n, kw0, eN] <;> omega) | omega | fail)) only [if_pos, if_neg, wI_id, zLc_lt, zLc_gt, zLc_eq, zLc_le, zLc_ge, Int.reduceEq, Int.reduceLE, Int.reduceLT, Int.reduceNeg, Int.reduceAdd, Int.reduceMul, Int.reduceSub, not_true_eq_false, not_false_eq_true, reduceIte, zPo_v, zPo_n, zPo_t, zKl_i, zKl_r, zKl_n, zKl_l, gK_sI, gK_sJ, gK_sR, gK_sIA, gK_sJA, gR_sI, gR_sJ, gJ_sI, gI_sJ, gI_sR, gJ_sR, gR_sIA, gJ_sIA, Nat.reduceLeDiff, Nat.reduceEqDiff, and_self, and_true, true_and, and_false, false_and, eX0_init_0, eX0_init_1, eX0_init_4, eX0_init_5, eX0_init_6, eX0_init_10, eX0_init_11, eX0_init_14, eX0_init_15, eX0_init_18, eX0_init_19, eX0_init_20, eX0_init_21, eX0_init_24, eX0_init_25, eX0_init_28, eX0_init_29, eX0_init_30, eX0_init_31, eX0_init_34, eX0_init_35, eX0_init_38, eX0_init_39, eX0_init_40, eX0_init_41, eX0_init_44, eX0_init_45, eX0_init_48, eX0_init_49, eX0_init_52, eX0_init_53, eX0_init_56, eX0_init_58, eX0_init_61, eX0_init_62, eX0_init_63, eX0_init_66, eX0_init_67, eX0_init_68, eX0_init_71, eX0_init_72, eX0_init_75, eX0_init_76, eX0_init_79, eX0_init_82, eX0_init_83, eX0_init_86, eX0_init_87, eX0_init_90, eX0_init_93, eX0_init_94, eX0_init_95, eX0_init_98, eX0_init_99, eX0_init_102, eX0_init_103, eX0_init_106, eX0_init_109, eX0_init_110, eX0_init_111, eX0_init_114, eX0_init_117, eX0_init_118, eX0_init_121, eX0_init_122, eX0_init_125, eX0_init_128, eX0_init_129, eX0_init_131, eX0_init_133, eX0_init_136, eX0_init_137, eX0_init_138, eX0_init_140, eX0_init_143, eX0_init_144, eX0_init_145, eX0_init_147, eX0_init_150, eX0_init_151, eX0_init_153, eX0_init_155, eX0_init_158, eX0_init_159, eX0_init_160, eX0_init_162, eX0_init_165, tX0_init, eX0_init_in, kw0, eN, Int.reduceToNat]
    exact k9 _ F2
  simp (disch := (first | (simp only [gK_sI, gK_sJ, gK_sR, gK_sIA, gK_sJA, gR_sI, gR_sJ, gR_sIA, Nat.reduceLeDiff, Nat.reduceEqDiff, Nat.reduceLT, Int.reduceLE, Int.reduceLT, Int.reduceEq, zWt_i, zWt_l, zWt_r, zWt_n, hk] <;> omega) | omega | fail)) only [if_pos, if_neg, wI_id, zLc_lt, zLc_gt, zLc_eq, zLc_le, zLc_ge, Int.reduceEq, Int.reduceLE, Int.reduceLT, Int.reduceNeg, Int.reduceAdd, Int.reduceMul, Int.reduceSub, not_true_eq_false, not_false_eq_true, reduceIte, zPo_v, zPo_n, zPo_t, zKl_i, zKl_r, zKl_n, zKl_l, gK_sI, gK_sJ, gK_sR, gK_sIA, gK_sJA, gR_sI, gR_sJ, gJ_sI, gI_sJ, gI_sR, gJ_sR, gR_sIA, gJ_sIA, Nat.reduceLeDiff, Nat.reduceEqDiff, and_self, and_true, true_and, and_false, false_and, eX0_init_0, eX0_init_1, eX0_init_5, eX0_init_6, eX0_init_9, eX0_init_10, eX0_init_11, eX0_init_14, eX0_init_15, eX0_init_18, eX0_init_19, eX0_init_20, eX0_init_21, eX0_init_24, eX0_init_25, eX0_init_28, eX0_init_29, eX0_init_30, eX0_init_31, eX0_init_34, eX0_init_35, eX0_init_38, eX0_init_39, eX0_init_40, eX0_init_41, eX0_init_44, eX0_init_45, eX0_init_48, eX0_init_49, eX0_init_52, eX0_init_53, eX0_init_56, eX0_init_58, eX0_init_61, eX0_init_62, eX0_init_63, eX0_init_66, eX0_init_67, eX0_init_68, eX0_init_71, eX0_init_72, eX0_init_75, eX0_init_76, eX0_init_79, eX0_init_82, eX0_init_83, eX0_init_86, eX0_init_87, eX0_init_90, eX0_init_93, eX0_init_94, eX0_init_95, eX0_init_98, eX0_init_99, eX0_init_102, eX0_init_103, eX0_init_106, eX0_init_109, eX0_init_110, eX0_init_111, eX0_init_114, eX0_init_117, eX0_init_118, eX0_init_121, eX0_init_122, eX0_init_125, eX0_init_128, eX0_init_129, eX0_init_131, eX0_init_133, eX0_init_136, eX0_init_137, eX0_init_138, eX0_init_140, eX0_init_143, eX0_init_144, eX0_init_145, eX0_init_147, eX0_init_150, eX0_init_151, eX0_init_153, eX0_init_155, eX0_init_158, eX0_init_159, eX0_init_160, eX0_init_162, eX0_init_165, tX0_init, eX0_init_in, hk]
  exact k4 h ⟨hN, rfl, rfl, fun i hi => by omega, fun b _ => rfl, fun b b0 b1 b2 b3 => by rw [show b = 65 by omega, hr]; rfl, fun b _ => rfl, fun b _ => ⟨rfl, rfl⟩, fun b b0 b1 => by omega, hi, hj, fun h9 => by omega, fun h9 => by omega⟩
end J15
