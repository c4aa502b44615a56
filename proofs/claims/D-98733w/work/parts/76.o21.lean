/-! ===== WORLDS AND HOUSES ARE MADE ===== -/
set_option maxRecDepth 100000
section
variable {h : zHp} {b c : Nat} {k : Nat × Nat} {z : Nat} {j x : Int} {o : Option Nat} {f : Int → Int}
theorem gN_sR : gN (sR h b j o) = gN h := rfl
theorem gN_sI : gN (sI h b j x) = gN h := rfl
theorem gN_sJ : gN (sJ h b j x) = gN h := rfl
theorem gN_sIA : gN (sIA h b f) = gN h := rfl
theorem gN_new : gN (gNew h k z) = gN h + 1 := rfl
theorem gC_new : gC (gNew h k z) = gC h + 1 := rfl
theorem gS_new : gS (gNew h k z) = gS h + z := rfl
theorem gC_sR : gC (sR h b j o) = gC h := rfl
theorem gS_sR : gS (sR h b j o) = gS h := rfl
theorem gK_new_ne (e : b ≠ gN h) : gK (gNew h k z) b = gK h b := if_neg e
theorem gI_new_ne (e : b ≠ gN h) : gI (gNew h k z) b = gI h b := if_neg e
theorem gJ_new_ne (e : b ≠ gN h) : gJ (gNew h k z) b = gJ h b := if_neg e
theorem gR_new_ne (e : b ≠ gN h) : gR (gNew h k z) b = gR h b := if_neg e
theorem gK_new_eq (e : b = gN h) : gK (gNew h k z) b = k := if_pos e
theorem gI_new_eq (e : b = gN h) : gI (gNew h k z) b = fun _ => 0 := if_pos e
theorem gJ_new_eq (e : b = gN h) : gJ (gNew h k z) b = fun _ => 0 := if_pos e
theorem gR_new_eq (e : b = gN h) : gR (gNew h k z) b = fun _ => none := if_pos e
end
/-- a world is made at w: what stands there, what stays -/
def zWn (w : Nat) (h h' : zHp) : Prop := gN h' = w + 16 ∧ gC h' = gC h + 15 ∧ gS h' = gS h + 176 ∧ zWk h' w ∧ (∀ i, i < 4 → 5 ≤ (gK h' (w + 1 + i)).1) ∧ (gK h' (w + 1) = (6, 6) ∧ gK h' (w + 2) = (7, 8) ∧ gK h' (w + 3) = (8, 6) ∧ gK h' (w + 4) = (9, 4)) ∧ (gR h' w 6 = some (w + 1) ∧ gR h' w 7 = some (w + 2) ∧ gR h' w 8 = some (w + 3) ∧ gR h' w 9 = some (w + 4)) ∧ (∀ b, b ≤ w ∨ w + 16 ≤ b → gK h' b = gK h b) ∧ (∀ b, b < w ∨ w + 16 ≤ b → gR h' b = gR h b) ∧ (∀ b, b ≤ w ∨ w + 16 ≤ b → gI h' b = gI h b ∧ gJ h' b = gJ h b) ∧ (∀ b, w < b → b < w + 16 → gI h' b = (fun _ => 0) ∧ gJ h' b = (fun _ => 0) ∧ gR h' b = fun _ => none)
section O21
variable {d w : Nat} {h : zHp} {Q : zRs → Prop}
def zKw (i : Nat) : Nat × Nat := match i with | 0 => (6, 6) | 1 => (7, 8) | 2 => (8, 6) | 3 => (9, 4) | 4 => (1, 6) | 5 => (1, 48) | 6 => (1, 36) | 7 => (1, 4) | 8 => (1, 4) | 9 => (1, 4) | 10 => (1, 4) | 11 => (1, 4) | 12 => (1, 4) | 13 => (1, 32) | 14 => (1, 6) | _ => (0, 0)
/-- so many rows of a world are made -/
def zWm (h : zHp) (w m z : Nat) (H : zHp) : Prop := gN H = w + 1 + m ∧ gC H = gC h + m ∧ gS H = gS h + z ∧ (∀ i, i < m → gK H (w + 1 + i) = zKw i) ∧ (∀ b, b ≤ w ∨ w + m < b → gK H b = gK h b) ∧ (∀ i : Nat, i < m → gR H w (6 + (i : Int)) = some (w + 1 + i)) ∧ (∀ b, b < w ∨ w + m < b → gR H b = gR h b) ∧ (∀ b, b ≤ w ∨ w + m < b → gI H b = gI h b ∧ gJ H b = gJ h b) ∧ (∀ b, w < b → b ≤ w + m → gI H b = (fun _ => 0) ∧ gJ H b = (fun _ => 0) ∧ gR H b = fun _ => none)
theorem zWm_next {h H : zHp} {w m z q : Nat} {j : Int} (F : zWm h w m z H) (hq : (zKw m).2 = q) (hj : j = 6 + (m : Int)) : zWm h w (m + 1) (z + q) (sR (gNew H (zKw m) q) w j (some (w + 1 + m))) := by
  obtain ⟨f1, f2, f3, f4, f5, f6, f7, f8, f9⟩ := F
  subst hj
  refine ⟨?_, ?_, ?_, fun i hi => ?_, fun b hb => ?_, fun i hi => ?_, fun b hb => ?_, fun b hb => ?_, fun b b0 b1 => ?_⟩
  · rw [gN_sR, gN_new, f1]
    omega
  · rw [gC_sR, gC_new, f2]
    omega
  · rw [gS_sR, gS_new, f3]
    omega
  · rw [gK_sR]
    by_cases e : i = m
    · subst e
      rw [gK_new_eq (by omega)]
    · rw [gK_new_ne (by omega)]
      exact f4 i (by omega)
  · rw [gK_sR, gK_new_ne (by omega)]
    exact f5 b (by omega)
  · rw [gR_sR_eq]
    by_cases e : i = m
    · subst e
      rw [zU_eq]
    · rw [zU_ne (by omega), gR_new_ne (by omega)]
      exact f6 i (by omega)
  · rw [gR_sR_ne (by omega), gR_new_ne (by omega)]
    exact f7 b (by omega)
  · rw [gI_sR, gJ_sR, gI_new_ne (by omega), gJ_new_ne (by omega)]
    exact f8 b (by omega)
  · rw [gI_sR, gJ_sR, gR_sR_ne (by omega)]
    by_cases e : b = w + 1 + m
    · rw [gI_new_eq (by omega), gJ_new_eq (by omega), gR_new_eq (by omega)]
      exact ⟨rfl, rfl, rfl⟩
    · rw [gI_new_ne (by omega), gJ_new_ne (by omega), gR_new_ne (by omega)]
      exact f9 b b0 (by omega)
theorem kX5_init (hw : 65 ≤ w) (hk : gK h w = (0, 5)) (hN : gN h = w + 1) (hQ : ∀ h', zWn w h h' → Q (zRn h')) : zCm mX5_init d [zr (some w)] h Q := by
  have k15 : ∀ H, zWm h w 15 176 H → zEv mX5_init d 121 [some (zr (some w))] [] H Q := fun H F => by
    obtain ⟨f1, f2, f3, f4, f5, f6, f7, f8, f9⟩ := F
    simp (disch := (first | (simp only [gK_sI, gK_sJ, gK_sR, gK_sIA, gK_sJA, gR_sI, gR_sJ, gR_sIA, Nat.reduceLeDiff, Nat.reduceEqDiff, Nat.reduceLT, Int.reduceLE, Int.reduceLT, Int.reduceEq, zWt_i, zWt_l, zWt_r, zWt_n] <;> omega) | omega | fail)) only [if_pos, if_neg, wI_id, zLc_lt, zLc_gt, zLc_eq, zLc_le, zLc_ge, Int.reduceEq, Int.reduceLE, Int.reduceLT, Int.reduceNeg, Int.reduceAdd, Int.reduceMul, Int.reduceSub, not_true_eq_false, not_false_eq_true, reduceIte, zPo_v, zPo_n, zPo_t, zKl_i, zKl_r, zKl_n, zKl_l, gK_sI, gK_sJ, gK_sR, gK_sIA, gK_sJA, gR_sI, gR_sJ, gJ_sI, gI_sJ, gI_sR, gJ_sR, gR_sIA, gJ_sIA, Nat.reduceLeDiff, Nat.reduceEqDiff, and_self, and_true, true_and, and_false, false_and, eX5_init_0, eX5_init_1, eX5_init_4, eX5_init_5, eX5_init_7, eX5_init_10, eX5_init_13, eX5_init_14, eX5_init_16, eX5_init_19, eX5_init_22, eX5_init_23, eX5_init_25, eX5_init_28, eX5_init_31, eX5_init_32, eX5_init_33, eX5_init_36, eX5_init_39, eX5_init_40, eX5_init_42, eX5_init_44, eX5_init_47, eX5_init_48, eX5_init_50, eX5_init_52, eX5_init_55, eX5_init_56, eX5_init_58, eX5_init_60, eX5_init_63, eX5_init_64, eX5_init_65, eX5_init_67, eX5_init_70, eX5_init_71, eX5_init_72, eX5_init_74, eX5_init_77, eX5_init_78, eX5_init_79, eX5_init_81, eX5_init_84, eX5_init_85, eX5_init_86, eX5_init_88, eX5_init_91, eX5_init_92, eX5_init_93, eX5_init_95, eX5_init_98, eX5_init_99, eX5_init_100, eX5_init_102, eX5_init_105, eX5_init_106, eX5_init_108, eX5_init_110, eX5_init_113, eX5_init_114, eX5_init_116, eX5_init_118, eX5_init_121, eX5_init_in]
    refine hQ H ⟨by omega, f2, f3, ⟨(f5 w (Or.inl (Nat.le_refl _))).trans hk, f6 4 (by decide), f4 4 (by decide), f6 5 (by decide), f4 5 (by decide), f6 6 (by decide), f4 6 (by decide), f6 7 (by decide), f4 7 (by decide), f6 8 (by decide), f4 8 (by decide), f6 9 (by decide), f4 9 (by decide), f6 10 (by decide), f4 10 (by decide), f6 11 (by decide), f4 11 (by decide), f6 12 (by decide), f4 12 (by decide), f6 13 (by decide), f4 13 (by decide), f6 14 (by decide), f4 14 (by decide)⟩, fun i hi => ?_, ⟨f4 0 (by decide), f4 1 (by decide), f4 2 (by decide), f4 3 (by decide)⟩, ⟨f6 0 (by decide), f6 1 (by decide), f6 2 (by decide), f6 3 (by decide)⟩, fun b hb => f5 b (by omega), fun b hb => f7 b (by omega), fun b hb => f8 b (by omega), fun b b0 b1 => f9 b b0 (by omega)⟩
    rw [f4 i (by omega)]
    have hi : i = 0 ∨ i = 1 ∨ i = 2 ∨ i = 3 := by omega
    obtain rfl | rfl | rfl | rfl := hi <;> decide
  have k14 : ∀ H, zWm h w 14 170 H → zEv mX5_init d 113 [some (zr (some w))] [] H Q := fun H F => by
    have F2 := zWm_next (q := 6) (j := 20) F rfl rfl
    have kw : gK (gNew H (zKw 14) 6) w = (0, 5) := by
      rw [gK_new_ne (by have := F.1; omega)]
      exact (F.2.2.2.2.1 w (Or.inl (Nat.le_refl _))).trans hk
    have eN : gN H = w + 1 + 14 := F.1
    have kw : gK (gNew H (1, 6) 6) w = (0, 5) := kw
    have F2 : zWm h w 15 176 (sR (gNew H (1, 6) 6) w 20 (some (w + 1 + 14))) := F2
    rw [← eN] at F2
    simp (disch := (first | (simp only [gK_sI, gK_sJ, gK_sR, gK_sIA, gK_sJA, gR_sI, gR_sJ, gR_sIA, Nat.reduceLeDiff, Nat.reduceEqDiff, Nat.reduceLT, Int.reduceLE, Int.reduceLT, Int.reduceEq, zWt_i, zWt_l, zWt_r, zWt_n, kw] <;> omega) | omega | fail)) only [if_pos, if_neg, wI_id, zLc_lt, zLc_gt, zLc_eq, zLc_le, zLc_ge, Int.reduceEq, Int.reduceLE, Int.reduceLT, Int.reduceNeg, Int.reduceAdd, Int.reduceMul, Int.reduceSub, not_true_eq_false, not_false_eq_true, reduceIte, zPo_v, zPo_n, zPo_t, zKl_i, zKl_r, zKl_n, zKl_l, gK_sI, gK_sJ, gK_sR, gK_sIA, gK_sJA, gR_sI, gR_sJ, gJ_sI, gI_sJ, gI_sR, gJ_sR, gR_sIA, gJ_sIA, Nat.reduceLeDiff, Nat.reduceEqDiff, and_self, and_true, true_and, and_false, false_and, eX5_init_0, eX5_init_1, eX5_init_4, eX5_init_5, eX5_init_7, eX5_init_10, eX5_init_13, eX5_init_14, eX5_init_16, eX5_init_19, eX5_init_22, eX5_init_23, eX5_init_25, eX5_init_28, eX5_init_31, eX5_init_32, eX5_init_33, eX5_init_36, eX5_init_39, eX5_init_40, eX5_init_42, eX5_init_44, eX5_init_47, eX5_init_48, eX5_init_50, eX5_init_52, eX5_init_55, eX5_init_56, eX5_init_58, eX5_init_60, eX5_init_63, eX5_init_64, eX5_init_65, eX5_init_67, eX5_init_70, eX5_init_71, eX5_init_72, eX5_init_74, eX5_init_77, eX5_init_78, eX5_init_79, eX5_init_81, eX5_init_84, eX5_init_85, eX5_init_86, eX5_init_88, eX5_init_91, eX5_init_92, eX5_init_93, eX5_init_95, eX5_init_98, eX5_init_99, eX5_init_100, eX5_init_102, eX5_init_105, eX5_init_106, eX5_init_108, eX5_init_110, eX5_init_113, eX5_init_114, eX5_init_116, eX5_init_118, eX5_init_in, kw, Int.reduceToNat]
    exact k15 _ F2
  have k13 : ∀ H, zWm h w 13 138 H → zEv mX5_init d 105 [some (zr (some w))] [] H Q := fun H F => by
    have F2 := zWm_next (q := 32) (j := 19) F rfl rfl
    have kw : gK (gNew H (zKw 13) 32) w = (0, 5) := by
      rw [gK_new_ne (by have := F.1; omega)]
      exact (F.2.2.2.2.1 w (Or.inl (Nat.le_refl _))).trans hk
    have eN : gN H = w + 1 + 13 := F.1
    have kw : gK (gNew H (1, 32) 32) w = (0, 5) := kw
    have F2 : zWm h w 14 170 (sR (gNew H (1, 32) 32) w 19 (some (w + 1 + 13))) := F2
    rw [← eN] at F2
    simp (disch := (first | (simp only [gK_sI, gK_sJ, gK_sR, gK_sIA, gK_sJA, gR_sI, gR_sJ, gR_sIA, Nat.reduceLeDiff, Nat.reduceEqDiff, Nat.reduceLT, Int.reduceLE, Int.reduceLT, Int.reduceEq, zWt_i, zWt_l, zWt_r, zWt_n, kw] <;> omega) | omega | fail)) only [if_pos, if_neg, wI_id, zLc_lt, zLc_gt, zLc_eq, zLc_le, zLc_ge, Int.reduceEq, Int.reduceLE, Int.reduceLT, Int.reduceNeg, Int.reduceAdd, Int.reduceMul, Int.reduceSub, not_true_eq_false, not_false_eq_true, reduceIte, zPo_v, zPo_n, zPo_t, zKl_i, zKl_r, zKl_n, zKl_l, gK_sI, gK_sJ, gK_sR, gK_sIA, gK_sJA, gR_sI, gR_sJ, gJ_sI, gI_sJ, gI_sR, gJ_sR, gR_sIA, gJ_sIA, Nat.reduceLeDiff, Nat.reduceEqDiff, and_self, and_true, true_and, and_false, false_and, eX5_init_0, eX5_init_1, eX5_init_4, eX5_init_5, eX5_init_7, eX5_init_10, eX5_init_13, eX5_init_14, eX5_init_16, eX5_init_19, eX5_init_22, eX5_init_23, eX5_init_25, eX5_init_28, eX5_init_31, eX5_init_32, eX5_init_33, eX5_init_36, eX5_init_39, eX5_init_40, eX5_init_42, eX5_init_44, eX5_init_47, eX5_init_48, eX5_init_50, eX5_init_52, eX5_init_55, eX5_init_56, eX5_init_58, eX5_init_60, eX5_init_63, eX5_init_64, eX5_init_65, eX5_init_67, eX5_init_70, eX5_init_71, eX5_init_72, eX5_init_74, eX5_init_77, eX5_init_78, eX5_init_79, eX5_init_81, eX5_init_84, eX5_init_85, eX5_init_86, eX5_init_88, eX5_init_91, eX5_init_92, eX5_init_93, eX5_init_95, eX5_init_98, eX5_init_99, eX5_init_100, eX5_init_102, eX5_init_105, eX5_init_106, eX5_init_108, eX5_init_110, eX5_init_114, eX5_init_116, eX5_init_118, eX5_init_121, eX5_init_in, kw, Int.reduceToNat]
    exact k14 _ F2
  have k12 : ∀ H, zWm h w 12 134 H → zEv mX5_init d 98 [some (zr (some w))] [] H Q := fun H F => by
    have F2 := zWm_next (q := 4) (j := 18) F rfl rfl
    have kw : gK (gNew H (zKw 12) 4) w = (0, 5) := by
      rw [gK_new_ne (by have := F.1; omega)]
      exact (F.2.2.2.2.1 w (Or.inl (Nat.le_refl _))).trans hk
    have eN : gN H = w + 1 + 12 := F.1
    have kw : gK (gNew H (1, 4) 4) w = (0, 5) := kw
    have F2 : zWm h w 13 138 (sR (gNew H (1, 4) 4) w 18 (some (w + 1 + 12))) := F2
    rw [← eN] at F2
    simp (disch := (first | (simp only [gK_sI, gK_sJ, gK_sR, gK_sIA, gK_sJA, gR_sI, gR_sJ, gR_sIA, Nat.reduceLeDiff, Nat.reduceEqDiff, Nat.reduceLT, Int.reduceLE, Int.reduceLT, Int.reduceEq, zWt_i, zWt_l, zWt_r, zWt_n, kw] <;> omega) | omega | fail)) only [if_pos, if_neg, wI_id, zLc_lt, zLc_gt, zLc_eq, zLc_le, zLc_ge, Int.reduceEq, Int.reduceLE, Int.reduceLT, Int.reduceNeg, Int.reduceAdd, Int.reduceMul, Int.reduceSub, not_true_eq_false, not_false_eq_true, reduceIte, zPo_v, zPo_n, zPo_t, zKl_i, zKl_r, zKl_n, zKl_l, gK_sI, gK_sJ, gK_sR, gK_sIA, gK_sJA, gR_sI, gR_sJ, gJ_sI, gI_sJ, gI_sR, gJ_sR, gR_sIA, gJ_sIA, Nat.reduceLeDiff, Nat.reduceEqDiff, and_self, and_true, true_and, and_false, false_and, eX5_init_0, eX5_init_1, eX5_init_4, eX5_init_5, eX5_init_7, eX5_init_10, eX5_init_13, eX5_init_14, eX5_init_16, eX5_init_19, eX5_init_22, eX5_init_23, eX5_init_25, eX5_init_28, eX5_init_31, eX5_init_32, eX5_init_33, eX5_init_36, eX5_init_39, eX5_init_40, eX5_init_42, eX5_init_44, eX5_init_47, eX5_init_48, eX5_init_50, eX5_init_52, eX5_init_55, eX5_init_56, eX5_init_58, eX5_init_60, eX5_init_63, eX5_init_64, eX5_init_65, eX5_init_67, eX5_init_70, eX5_init_71, eX5_init_72, eX5_init_74, eX5_init_77, eX5_init_78, eX5_init_79, eX5_init_81, eX5_init_84, eX5_init_85, eX5_init_86, eX5_init_88, eX5_init_91, eX5_init_92, eX5_init_93, eX5_init_95, eX5_init_98, eX5_init_99, eX5_init_100, eX5_init_102, eX5_init_106, eX5_init_108, eX5_init_110, eX5_init_113, eX5_init_114, eX5_init_116, eX5_init_118, eX5_init_121, eX5_init_in, kw, Int.reduceToNat]
    exact k13 _ F2
  have k11 : ∀ H, zWm h w 11 130 H → zEv mX5_init d 91 [some (zr (some w))] [] H Q := fun H F => by
    have F2 := zWm_next (q := 4) (j := 17) F rfl rfl
    have kw : gK (gNew H (zKw 11) 4) w = (0, 5) := by
      rw [gK_new_ne (by have := F.1; omega)]
      exact (F.2.2.2.2.1 w (Or.inl (Nat.le_refl _))).trans hk
    have eN : gN H = w + 1 + 11 := F.1
    have kw : gK (gNew H (1, 4) 4) w = (0, 5) := kw
    have F2 : zWm h w 12 134 (sR (gNew H (1, 4) 4) w 17 (some (w + 1 + 11))) := F2
    rw [← eN] at F2
    simp (disch := (first | (simp only [gK_sI, gK_sJ, gK_sR, gK_sIA, gK_sJA, gR_sI, gR_sJ, gR_sIA, Nat.reduceLeDiff, Nat.reduceEqDiff, Nat.reduceLT, Int.reduceLE, Int.reduceLT, Int.reduceEq, zWt_i, zWt_l, zWt_r, zWt_n, kw] <;> omega) | omega | fail)) only [if_pos, if_neg, wI_id, zLc_lt, zLc_gt, zLc_eq, zLc_le, zLc_ge, Int.reduceEq, Int.reduceLE, Int.reduceLT, Int.reduceNeg, Int.reduceAdd, Int.reduceMul, Int.reduceSub, not_true_eq_false, not_false_eq_true, reduceIte, zPo_v, zPo_n, zPo_t, zKl_i, zKl_r, zKl_n, zKl_l, gK_sI, gK_sJ, gK_sR, gK_sIA, gK_sJA, gR_sI, gR_sJ, gJ_sI, gI_sJ, gI_sR, gJ_sR, gR_sIA, gJ_sIA, Nat.reduceLeDiff, Nat.reduceEqDiff, and_self, and_true, true_and, and_false, false_and, eX5_init_0, eX5_init_1, eX5_init_4, eX5_init_5, eX5_init_7, eX5_init_10, eX5_init_13, eX5_init_14, eX5_init_16, eX5_init_19, eX5_init_22, eX5_init_23, eX5_init_25, eX5_init_28, eX5_init_31, eX5_init_32, eX5_init_33, eX5_init_36, eX5_init_39, eX5_init_40, eX5_init_42, eX5_init_44, eX5_init_47, eX5_init_48, eX5_init_50, eX5_init_52, eX5_init_55, eX5_init_56, eX5_init_58, eX5_init_60, eX5_init_63, eX5_init_64, eX5_init_65, eX5_init_67, eX5_init_70, eX5_init_71, eX5_init_72, eX5_init_74, eX5_init_77, eX5_init_78, eX5_init_79, eX5_init_81, eX5_init_84, eX5_init_85, eX5_init_86, eX5_init_88, eX5_init_91, eX5_init_92, eX5_init_93, eX5_init_95, eX5_init_99, eX5_init_100, eX5_init_102, eX5_init_105, eX5_init_106, eX5_init_108, eX5_init_110, eX5_init_113, eX5_init_114, eX5_init_116, eX5_init_118, eX5_init_121, eX5_init_in, kw, Int.reduceToNat]
    exact k12 _ F2
  have k10 : ∀ H, zWm h w 10 126 H → zEv mX5_init d 84 [some (zr (some w))] [] H Q := fun H F => by
    have F2 := zWm_next (q := 4) (j := 16) F rfl rfl
    have kw : gK (gNew H (zKw 10) 4) w = (0, 5) := by
      rw [gK_new_ne (by have := F.1; omega)]
      exact (F.2.2.2.2.1 w (Or.inl (Nat.le_refl _))).trans hk
    have eN : gN H = w + 1 + 10 := F.1
    have kw : gK (gNew H (1, 4) 4) w = (0, 5) := kw
    have F2 : zWm h w 11 130 (sR (gNew H (1, 4) 4) w 16 (some (w + 1 + 10))) := F2
    rw [← eN] at F2
    simp (disch := (first | (simp only [gK_sI, gK_sJ, gK_sR, gK_sIA, gK_sJA, gR_sI, gR_sJ, gR_sIA, Nat.reduceLeDiff, Nat.reduceEqDiff, Nat.reduceLT, Int.reduceLE, Int.reduceLT, Int.reduceEq, zWt_i, zWt_l, zWt_r, zWt_n, kw] <;> omega) | omega | fail)) only [if_pos, if_neg, wI_id, zLc_lt, zLc_gt, zLc_eq, zLc_le, zLc_ge, Int.reduceEq, Int.reduceLE, Int.reduceLT, Int.reduceNeg, Int.reduceAdd, Int.reduceMul, Int.reduceSub, not_true_eq_false, not_false_eq_true, reduceIte, zPo_v, zPo_n, zPo_t, zKl_i, zKl_r, zKl_n, zKl_l, gK_sI, gK_sJ, gK_sR, gK_sIA, gK_sJA, gR_sI, gR_sJ, gJ_sI, gI_sJ, gI_sR, gJ_sR, gR_sIA, gJ_sIA, Nat.reduceLeDiff, Nat.reduceEqDiff, and_self, and_true, true_and, and_false, false_and, eX5_init_0, eX5_init_1, eX5_init_4, eX5_init_5, eX5_init_7, eX5_init_10, eX5_init_13, eX5_init_14, eX5_init_16, eX5_init_19, eX5_init_22, eX5_init_23, eX5_init_25, eX5_init_28, eX5_init_31, eX5_init_32, eX5_init_33, eX5_init_36, eX5_init_39, eX5_init_40, eX5_init_42, eX5_init_44, eX5_init_47, eX5_init_48, eX5_init_50, eX5_init_52, eX5_init_55, eX5_init_56, eX5_init_58, eX5_init_60, eX5_init_63, eX5_init_64, eX5_init_65, eX5_init_67, eX5_init_70, eX5_init_71, eX5_init_72, eX5_init_74, eX5_init_77, eX5_init_78, eX5_init_79, eX5_init_81, eX5_init_84, eX5_init_85, eX5_init_86, eX5_init_88, eX5_init_92, eX5_init_93, eX5_init_95, eX5_init_98, eX5_init_99, eX5_init_100, eX5_init_102, eX5_init_105, eX5_init_106, eX5_init_108, eX5_init_110, eX5_init_113, eX5_init_114, eX5_init_116, eX5_init_118, eX5_init_121, eX5_init_in, kw, Int.reduceToNat]
    exact k11 _ F2
  have k9 : ∀ H, zWm h w 9 122 H → zEv mX5_init d 77 [some (zr (some w))] [] H Q := fun H F => by
    have F2 := zWm_next (q := 4) (j := 15) F rfl rfl
    have kw : gK (gNew H (zKw 9) 4) w = (0, 5) := by
      rw [gK_new_ne (by have := F.1; omega)]
      exact (F.2.2.2.2.1 w (Or.inl (Nat.le_refl _))).trans hk
    have eN : gN H = w + 1 + 9 := F.1
    have kw : gK (gNew H (1, 4) 4) w = (0, 5) := kw
    have F2 : zWm h w 10 126 (sR (gNew H (1, 4) 4) w 15 (some (w + 1 + 9))) := F2
    rw [← eN] at F2
    simp (disch := (first | (simp only [gK_sI, gK_sJ, gK_sR, gK_sIA, gK_sJA, gR_sI, gR_sJ, gR_sIA, Nat.reduceLeDiff, Nat.reduceEqDiff, Nat.reduceLT, Int.reduceLE, Int.reduceLT, Int.reduceEq, zWt_i, zWt_l, zWt_r, zWt_n, kw] <;> omega) | omega | fail)) only [if_pos, if_neg, wI_id, zLc_lt, zLc_gt, zLc_eq, zLc_le, zLc_ge, Int.reduceEq, Int.reduceLE, Int.reduceLT, Int.reduceNeg, Int.reduceAdd, Int.reduceMul, Int.reduceSub, not_true_eq_false, not_false_eq_true, reduceIte, zPo_v, zPo_n, zPo_t, zKl_i, zKl_r, zKl_n, zKl_l, gK_sI, gK_sJ, gK_sR, gK_sIA, gK_sJA, gR_sI, gR_sJ, gJ_sI, gI_sJ, gI_sR, gJ_sR, gR_sIA, gJ_sIA, Nat.reduceLeDiff, Nat.reduceEqDiff, and_self, and_true, true_and, and_false, false_and, eX5_init_0, eX5_init_1, eX5_init_4, eX5_init_5, eX5_init_7, eX5_init_10, eX5_init_13, eX5_init_14, eX5_init_16, eX5_init_19, eX5_init_22, eX5_init_23, eX5_init_25, eX5_init_28, eX5_init_31, eX5_init_32, eX5_init_33, eX5_init_36, eX5_init_39, eX5_init_40, eX5_init_42, eX5_init_44, eX5_init_47, eX5_init_48, eX5_init_50, eX5_init_52, eX5_init_55, eX5_init_56, eX5_init_58, eX5_init_60, eX5_init_63, eX5_init_64, eX5_init_65, eX5_init_67, eX5_init_70, eX5_init_71, eX5_init_72, eX5_init_74, eX5_init_77, eX5_init_78, eX5_init_79, eX5_init_81, eX5_init_85, eX5_init_86, eX5_init_88, eX5_init_91, eX5_init_92, eX5_init_93, eX5_init_95, eX5_init_98, eX5_init_99, eX5_init_100, eX5_init_102, eX5_init_105, eX5_init_106, eX5_init_108, eX5_init_110, eX5_init_113, eX5_init_114, eX5_init_116, eX5_init_118, eX5_init_121, eX5_init_in, kw, Int.reduceToNat]
    exact k10 _ F2
  have k8 : ∀ H, zWm h w 8 118 H → zEv mX5_init d 70 [some (zr (some w))] [] H Q := fun H F => by
    have F2 := zWm_next (q := 4) (j := 14) F rfl rfl
    have kw : gK (gNew H (zKw 8) 4) w = (0, 5) := by
      rw [gK_new_ne (by have := F.1; omega)]
      exact (F.2.2.2.2.1 w (Or.inl (Nat.le_refl _))).trans hk
    have eN : gN H = w + 1 + 8 := F.1
    have kw : gK (gNew H (1, 4) 4) w = (0, 5) := kw
    have F2 : zWm h w 9 122 (sR (gNew H (1, 4) 4) w 14 (some (w + 1 + 8))) := F2
    rw [← eN] at F2
    simp (disch := (first | (simp only [gK_sI, gK_sJ, gK_sR, gK_sIA, gK_sJA, gR_sI, gR_sJ, gR_sIA, Nat.reduceLeDiff, Nat.reduceEqDiff, Nat.reduceLT, Int.reduceLE, Int.reduceLT, Int.reduceEq, zWt_i, zWt_l, zWt_r, zWt_n, kw] <;> omega) | omega | fail)) only [if_pos, if_neg, wI_id, zLc_lt, zLc_gt, zLc_eq, zLc_le, zLc_ge, Int.reduceEq, Int.reduceLE, Int.reduceLT, Int.reduceNeg, Int.reduceAdd, Int.reduceMul, Int.reduceSub, not_true_eq_false, not_false_eq_true, reduceIte, zPo_v, zPo_n, zPo_t, zKl_i, zKl_r, zKl_n, zKl_l, gK_sI, gK_sJ, gK_sR, gK_sIA, gK_sJA, gR_sI, gR_sJ, gJ_sI, gI_sJ, gI_sR, gJ_sR, gR_sIA, gJ_sIA, Nat.reduceLeDiff, Nat.reduceEqDiff, and_self, and_true, true_and, and_false, false_and, eX5_init_0, eX5_init_1, eX5_init_4, eX5_init_5, eX5_init_7, eX5_init_10, eX5_init_13, eX5_init_14, eX5_init_16, eX5_init_19, eX5_init_22, eX5_init_23, eX5_init_25, eX5_init_28, eX5_init_31, eX5_init_32, eX5_init_33, eX5_init_36, eX5_init_39, eX5_init_40, eX5_init_42, eX5_init_44, eX5_init_47, eX5_init_48, eX5_init_50, eX5_init_52, eX5_init_55, eX5_init_56, eX5_init_58, eX5_init_60, eX5_init_63, eX5_init_64, eX5_init_65, eX5_init_67, eX5_init_70, eX5_init_71, eX5_init_72, eX5_init_74, eX5_init_78, eX5_init_79, eX5_init_81, eX5_init_84, eX5_init_85, eX5_init_86, eX5_init_88, eX5_init_91, eX5_init_92, eX5_init_93, eX5_init_95, eX5_init_98, eX5_init_99, eX5_init_100, eX5_init_102, eX5_init_105, eX5_init_106, eX5_init_108, eX5_init_110, eX5_init_113, eX5_init_114, eX5_init_116, eX5_init_118, eX5_init_121, eX5_init_in, kw, Int.reduceToNat]
    exact k9 _ F2
  have k7 : ∀ H, zWm h w 7 114 H → zEv mX5_init d 63 [some (zr (some w))] [] H Q := fun H F => by
    have F2 := zWm_next (q := 4) (j := 13) F rfl rfl
    have kw : gK (gNew H (zKw 7) 4) w = (0, 5) := by
      rw [gK_new_ne (by have := F.1; omega)]
      exact (F.2.2.2.2.1 w (Or.inl (Nat.le_refl _))).trans hk
    have eN : gN H = w + 1 + 7 := F.1
    have kw : gK (gNew H (1, 4) 4) w = (0, 5) := kw
    have F2 : zWm h w 8 118 (sR (gNew H (1, 4) 4) w 13 (some (w + 1 + 7))) := F2
    rw [← eN] at F2
    simp (disch := (first | (simp only [gK_sI, gK_sJ, gK_sR, gK_sIA, gK_sJA, gR_sI, gR_sJ, gR_sIA, Nat.reduceLeDiff, Nat.reduceEqDiff, Nat.reduceLT, Int.reduceLE, Int.reduceLT, Int.reduceEq, zWt_i, zWt_l, zWt_r, zWt_n, kw] <;> omega) | omega | fail)) only [if_pos, if_neg, wI_id, zLc_lt, zLc_gt, zLc_eq, zLc_le, zLc_ge, Int.reduceEq, Int.reduceLE, Int.reduceLT, Int.reduceNeg, Int.reduceAdd, Int.reduceMul, Int.reduceSub, not_true_eq_false, not_false_eq_true, reduceIte, zPo_v, zPo_n, zPo_t, zKl_i, zKl_r, zKl_n, zKl_l, gK_sI, gK_sJ, gK_sR, gK_sIA, gK_sJA, gR_sI, gR_sJ, gJ_sI, gI_sJ, gI_sR, gJ_sR, gR_sIA, gJ_sIA, Nat.reduceLeDiff, Nat.reduceEqDiff, and_self, and_true, true_and, and_false, false_and, eX5_init_0, eX5_init_1, eX5_init_4, eX5_init_5, eX5_init_7, eX5_init_10, eX5_init_13, eX5_init_14, eX5_init_16, eX5_init_19, eX5_init_22, eX5_init_23, eX5_init_25, eX5_init_28, eX5_init_31, eX5_init_32, eX5_init_33, eX5_init_36, eX5_init_39, eX5_init_40, eX5_init_42, eX5_init_44, eX5_init_47, eX5_init_48, eX5_init_50, eX5_init_52, eX5_init_55, eX5_init_56, eX5_init_58, eX5_init_60, eX5_init_63, eX5_init_64, eX5_init_65, eX5_init_67, eX5_init_71, eX5_init_72, eX5_init_74, eX5_init_77, eX5_init_78, eX5_init_79, eX5_init_81, eX5_init_84, eX5_init_85, eX5_init_86, eX5_init_88, eX5_init_91, eX5_init_92, eX5_init_93, eX5_init_95, eX5_init_98, eX5_init_99, eX5_init_100, eX5_init_102, eX5_init_105, eX5_init_106, eX5_init_108, eX5_init_110, eX5_init_113, eX5_init_114, eX5_init_116, eX5_init_118, eX5_init_121, eX5_init_in, kw, Int.reduceToNat]
    exact k8 _ F2
  have k6 : ∀ H, zWm h w 6 78 H → zEv mX5_init d 55 [some (zr (some w))] [] H Q := fun H F => by
    have F2 := zWm_next (q := 36) (j := 12) F rfl rfl
    have kw : gK (gNew H (zKw 6) 36) w = (0, 5) := by
      rw [gK_new_ne (by have := F.1; omega)]
      exact (F.2.2.2.2.1 w (Or.inl (Nat.le_refl _))).trans hk
    have eN : gN H = w + 1 + 6 := F.1
    have kw : gK (gNew H (1, 36) 36) w = (0, 5) := kw
    have F2 : zWm h w 7 114 (sR (gNew H (1, 36) 36) w 12 (some (w + 1 + 6))) := F2
    rw [← eN] at F2
    simp (disch := (first | (simp only [gK_sI, gK_sJ, gK_sR, gK_sIA, gK_sJA, gR_sI, gR_sJ, gR_sIA, Nat.reduceLeDiff, Nat.reduceEqDiff, Nat.reduceLT, Int.reduceLE, Int.reduceLT, Int.reduceEq, zWt_i, zWt_l, zWt_r, zWt_n, kw] <;> omega) | omega | fail)) only [if_pos, if_neg, wI_id, zLc_lt, zLc_gt, zLc_eq, zLc_le, zLc_ge, Int.reduceEq, Int.reduceLE, Int.reduceLT, Int.reduceNeg, Int.reduceAdd, Int.reduceMul, Int.reduceSub, not_true_eq_false, not_false_eq_true, reduceIte, zPo_v, zPo_n, zPo_t, zKl_i, zKl_r, zKl_n, zKl_l, gK_sI, gK_sJ, gK_sR, gK_sIA, gK_sJA, gR_sI, gR_sJ, gJ_sI, gI_sJ, gI_sR, gJ_sR, gR_sIA, gJ_sIA, Nat.reduceLeDiff, Nat.reduceEqDiff, and_self, and_true, true_and, and_false, false_and, eX5_init_0, eX5_init_1, eX5_init_4, eX5_init_5, eX5_init_7, eX5_init_10, eX5_init_13, eX5_init_14, eX5_init_16, eX5_init_19, eX5_init_22, eX5_init_23, eX5_init_25, eX5_init_28, eX5_init_31, eX5_init_32, eX5_init_33, eX5_init_36, eX5_init_39, eX5_init_40, eX5_init_42, eX5_init_44, eX5_init_47, eX5_init_48, eX5_init_50, eX5_init_52, eX5_init_55, eX5_init_56, eX5_init_58, eX5_init_60, eX5_init_64, eX5_init_65, eX5_init_67, eX5_init_70, eX5_init_71, eX5_init_72, eX5_init_74, eX5_init_77, eX5_init_78, eX5_init_79, eX5_init_81, eX5_init_84, eX5_init_85, eX5_init_86, eX5_init_88, eX5_init_91, eX5_init_92, eX5_init_93, eX5_init_95, eX5_init_98, eX5_init_99, eX5_init_100, eX5_init_102, eX5_init_105, eX5_init_106, eX5_init_108, eX5_init_110, eX5_init_113, eX5_init_114, eX5_init_116, eX5_init_118, eX5_init_121, eX5_init_in, kw, Int.reduceToNat]
    exact k7 _ F2
  have k5 : ∀ H, zWm h w 5 30 H → zEv mX5_init d 47 [some (zr (some w))] [] H Q := fun H F => by
    have F2 := zWm_next (q := 48) (j := 11) F rfl rfl
    have kw : gK (gNew H (zKw 5) 48) w = (0, 5) := by
      rw [gK_new_ne (by have := F.1; omega)]
      exact (F.2.2.2.2.1 w (Or.inl (Nat.le_refl _))).trans hk
    have eN : gN H = w + 1 + 5 := F.1
    have kw : gK (gNew H (1, 48) 48) w = (0, 5) := kw
    have F2 : zWm h w 6 78 (sR (gNew H (1, 48) 48) w 11 (some (w + 1 + 5))) := F2
    rw [← eN] at F2
    simp (disch := (first | (simp only [gK_sI, gK_sJ, gK_sR, gK_sIA, gK_sJA, gR_sI, gR_sJ, gR_sIA, Nat.reduceLeDiff, Nat.reduceEqDiff, Nat.reduceLT, Int.reduceLE, Int.reduceLT, Int.reduceEq, zWt_i, zWt_l, zWt_r, zWt_n, kw] <;> omega) | omega | fail)) only [if_pos, if_neg, wI_id, zLc_lt, zLc_gt, zLc_eq, zLc_le, zLc_ge, Int.reduceEq, Int.reduceLE, Int.reduceLT, Int.reduceNeg, Int.reduceAdd, Int.reduceMul, Int.reduceSub, not_true_eq_false, not_false_eq_true, reduceIte, zPo_v, zPo_n, zPo_t, zKl_i, zKl_r, zKl_n, zKl_l, gK_sI, gK_sJ, gK_sR, gK_sIA, gK_sJA, gR_sI, gR_sJ, gJ_sI, gI_sJ, gI_sR, gJ_sR, gR_sIA, gJ_sIA, Nat.reduceLeDiff, Nat.reduceEqDiff, and_self, and_true, true_and, and_false, false_and, eX5_init_0, eX5_init_1, eX5_init_4, eX5_init_5, eX5_init_7, eX5_init_10, eX5_init_13, eX5_init_14, eX5_init_16, eX5_init_19, eX5_init_22, eX5_init_23, eX5_init_25, eX5_init_28, eX5_init_31, eX5_init_32, eX5_init_33, eX5_init_36, eX5_init_39, eX5_init_40, eX5_init_42, eX5_init_44, eX5_init_47, eX5_init_48, eX5_init_50, eX5_init_52, eX5_init_56, eX5_init_58, eX5_init_60, eX5_init_63, eX5_init_64, eX5_init_65, eX5_init_67, eX5_init_70, eX5_init_71, eX5_init_72, eX5_init_74, eX5_init_77, eX5_init_78, eX5_init_79, eX5_init_81, eX5_init_84, eX5_init_85, eX5_init_86, eX5_init_88, eX5_init_91, eX5_init_92, eX5_init_93, eX5_init_95, eX5_init_98, eX5_init_99, eX5_init_100, eX5_init_102, eX5_init_105, eX5_init_106, eX5_init_108, eX5_init_110, eX5_init_113, eX5_init_114, eX5_init_116, eX5_init_118, eX5_init_121, eX5_init_in, kw, Int.reduceToNat]
    exact k6 _ F2
  have k4 : ∀ H, zWm h w 4 24 H → zEv mX5_init d 39 [some (zr (some w))] [] H Q := fun H F => by
    have F2 := zWm_next (q := 6) (j := 10) F rfl rfl
    have kw : gK (gNew H (zKw 4) 6) w = (0, 5) := by
      rw [gK_new_ne (by have := F.1; omega)]
      exact (F.2.2.2.2.1 w (Or.inl (Nat.le_refl _))).trans hk
    have eN : gN H = w + 1 + 4 := F.1
    have kw : gK (gNew H (1, 6) 6) w = (0, 5) := kw
    have F2 : zWm h w 5 30 (sR (gNew H (1, 6) 6) w 10 (some (w + 1 + 4))) := F2
    rw [← eN] at F2
    simp (disch := (first | (simp only [gK_sI, gK_sJ, gK_sR, gK_sIA, gK_sJA, gR_sI, gR_sJ, gR_sIA, Nat.reduceLeDiff, Nat.reduceEqDiff, Nat.reduceLT, Int.reduceLE, Int.reduceLT, Int.reduceEq, zWt_i, zWt_l, zWt_r, zWt_n, kw] <;> omega) | omega | fail)) only [if_pos, if_neg, wI_id, zLc_lt, zLc_gt, zLc_eq, zLc_le, zLc_ge, Int.reduceEq, Int.reduceLE, Int.reduceLT, Int.reduceNeg, Int.reduceAdd, Int.reduceMul, Int.reduceSub, not_true_eq_false, not_false_eq_true, reduceIte, zPo_v, zPo_n, zPo_t, zKl_i, zKl_r, zKl_n, zKl_l, gK_sI, gK_sJ, gK_sR, gK_sIA, gK_sJA, gR_sI, gR_sJ, gJ_sI, gI_sJ, gI_sR, gJ_sR, gR_sIA, gJ_sIA, Nat.reduceLeDiff, Nat.reduceEqDiff, and_self, and_true, true_and, and_false, false_and, eX5_init_0, eX5_init_1, eX5_init_4, eX5_init_5, eX5_init_7, eX5_init_10, eX5_init_13, eX5_init_14, eX5_init_16, eX5_init_19, eX5_init_22, eX5_init_23, eX5_init_25, eX5_init_28, eX5_init_31, eX5_init_32, eX5_init_33, eX5_init_36, eX5_init_39, eX5_init_40, eX5_init_42, eX5_init_44, eX5_init_48, eX5_init_50, eX5_init_52, eX5_init_55, eX5_init_56, eX5_init_58, eX5_init_60, eX5_init_63, eX5_init_64, eX5_init_65, eX5_init_67, eX5_init_70, eX5_init_71, eX5_init_72, eX5_init_74, eX5_init_77, eX5_init_78, eX5_init_79, eX5_init_81, eX5_init_84, eX5_init_85, eX5_init_86, eX5_init_88, eX5_init_91, eX5_init_92, eX5_init_93, eX5_init_95, eX5_init_98, eX5_init_99, eX5_init_100, eX5_init_102, eX5_init_105, eX5_init_106, eX5_init_108, eX5_init_110, eX5_init_113, eX5_init_114, eX5_init_116, eX5_init_118, eX5_init_121, eX5_init_in, kw, Int.reduceToNat]
    exact k5 _ F2
  have k3 : ∀ H, zWm h w 3 20 H → zEv mX5_init d 31 [some (zr (some w))] [] H Q := fun H F => by
    have F2 := zWm_next (q := 4) (j := 9) F rfl rfl
    have kw : gK (gNew H (zKw 3) 4) w = (0, 5) := by
      rw [gK_new_ne (by have := F.1; omega)]
      exact (F.2.2.2.2.1 w (Or.inl (Nat.le_refl _))).trans hk
    have eN : gN H = w + 1 + 3 := F.1
    have kw : gK (gNew H (9, 4) 4) w = (0, 5) := kw
    have F2 : zWm h w 4 24 (sR (gNew H (9, 4) 4) w 9 (some (w + 1 + 3))) := F2
    rw [← eN] at F2
    simp (disch := (first | (simp only [gK_sI, gK_sJ, gK_sR, gK_sIA, gK_sJA, gR_sI, gR_sJ, gR_sIA, Nat.reduceLeDiff, Nat.reduceEqDiff, Nat.reduceLT, Int.reduceLE, Int.reduceLT, Int.reduceEq, zWt_i, zWt_l, zWt_r, zWt_n, kw] <;> omega) | omega | fail)) only [if_pos, if_neg, wI_id, zLc_lt, zLc_gt, zLc_eq, zLc_le, zLc_ge, Int.reduceEq, Int.reduceLE, Int.reduceLT, Int.reduceNeg, Int.reduceAdd, Int.reduceMul, Int.reduceSub, not_true_eq_false, not_false_eq_true, reduceIte, zPo_v, zPo_n, zPo_t, zKl_i, zKl_r, zKl_n, zKl_l, gK_sI, gK_sJ, gK_sR, gK_sIA, gK_sJA, gR_sI, gR_sJ, gJ_sI, gI_sJ, gI_sR, gJ_sR, gR_sIA, gJ_sIA, Nat.reduceLeDiff, Nat.reduceEqDiff, and_self, and_true, true_and, and_false, false_and, eX5_init_0, eX5_init_1, eX5_init_4, eX5_init_5, eX5_init_7, eX5_init_10, eX5_init_13, eX5_init_14, eX5_init_16, eX5_init_19, eX5_init_22, eX5_init_23, eX5_init_25, eX5_init_28, eX5_init_31, eX5_init_32, eX5_init_33, eX5_init_36, eX5_init_40, eX5_init_42, eX5_init_44, eX5_init_47, eX5_init_48, eX5_init_50, eX5_init_52, eX5_init_55, eX5_init_56, eX5_init_58, eX5_init_60, eX5_init_63, eX5_init_64, eX5_init_65, eX5_init_67, eX5_init_70, eX5_init_71, eX5_init_72, eX5_init_74, eX5_init_77, eX5_init_78, eX5_init_79, eX5_init_81, eX5_init_84, eX5_init_85, eX5_init_86, eX5_init_88, eX5_init_91, eX5_init_92, eX5_init_93, eX5_init_95, eX5_init_98, eX5_init_99, eX5_init_100, eX5_init_102, eX5_init_105, eX5_init_106, eX5_init_108, eX5_init_110, eX5_init_113, eX5_init_114, eX5_init_116, eX5_init_118, eX5_init_121, eX5_init_in, kw, Int.reduceToNat]
    exact k4 _ F2
  have k2 : ∀ H, zWm h w 2 14 H → zEv mX5_init d 22 [some (zr (some w))] [] H Q := fun H F => by
    have F2 := zWm_next (q := 6) (j := 8) F rfl rfl
    have kw : gK (gNew H (zKw 2) 6) w = (0, 5) := by
      rw [gK_new_ne (by have := F.1; omega)]
      exact (F.2.2.2.2.1 w (Or.inl (Nat.le_refl _))).trans hk
    have eN : gN H = w + 1 + 2 := F.1
    have kw : gK (gNew H (8, 6) 6) w = (0, 5) := kw
    have F2 : zWm h w 3 20 (sR (gNew H (8, 6) 6) w 8 (some (w + 1 + 2))) := F2
    rw [← eN] at F2
    simp (disch := (first | (simp only [gK_sI, gK_sJ, gK_sR, gK_sIA, gK_sJA, gR_sI, gR_sJ, gR_sIA, Nat.reduceLeDiff, Nat.reduceEqDiff, Nat.reduceLT, Int.reduceLE, Int.reduceLT, Int.reduceEq, zWt_i, zWt_l, zWt_r, zWt_n, kw] <;> omega) | omega | fail)) only [if_pos, if_neg, wI_id, zLc_lt, zLc_gt, zLc_eq, zLc_le, zLc_ge, Int.reduceEq, Int.reduceLE, Int.reduceLT, Int.reduceNeg, Int.reduceAdd, Int.reduceMul, Int.reduceSub, not_true_eq_false, not_false_eq_true, reduceIte, zPo_v, zPo_n, zPo_t, zKl_i, zKl_r, zKl_n, zKl_l, gK_sI, gK_sJ, gK_sR, gK_sIA, gK_sJA, gR_sI, gR_sJ, gJ_sI, gI_sJ, gI_sR, gJ_sR, gR_sIA, gJ_sIA, Nat.reduceLeDiff, Nat.reduceEqDiff, and_self, and_true, true_and, and_false, false_and, eX5_init_0, eX5_init_1, eX5_init_4, eX5_init_5, eX5_init_7, eX5_init_10, eX5_init_13, eX5_init_14, eX5_init_16, eX5_init_19, eX5_init_22, eX5_init_23, eX5_init_25, eX5_init_28, eX5_init_32, eX5_init_33, eX5_init_36, eX5_init_39, eX5_init_40, eX5_init_42, eX5_init_44, eX5_init_47, eX5_init_48, eX5_init_50, eX5_init_52, eX5_init_55, eX5_init_56, eX5_init_58, eX5_init_60, eX5_init_63, eX5_init_64, eX5_init_65, eX5_init_67, eX5_init_70, eX5_init_71, eX5_init_72, eX5_init_74, eX5_init_77, eX5_init_78, eX5_init_79, eX5_init_81, eX5_init_84, eX5_init_85, eX5_init_86, eX5_init_88, eX5_init_91, eX5_init_92, eX5_init_93, eX5_init_95, eX5_init_98, eX5_init_99, eX5_init_100, eX5_init_102, eX5_init_105, eX5_init_106, eX5_init_108, eX5_init_110, eX5_init_113, eX5_init_114, eX5_init_116, eX5_init_118, eX5_init_121, eX5_init_in, kw, Int.reduceToNat]
    exact k3 _ F2
  have k1 : ∀ H, zWm h w 1 6 H → zEv mX5_init d 13 [some (zr (some w))] [] H Q := fun H F => by
    have F2 := zWm_next (q := 8) (j := 7) F rfl rfl
    have kw : gK (gNew H (zKw 1) 8) w = (0, 5) := by
      rw [gK_new_ne (by have := F.1; omega)]
      exact (F.2.2.2.2.1 w (Or.inl (Nat.le_refl _))).trans hk
    have eN : gN H = w + 1 + 1 := F.1
    have kw : gK (gNew H (7, 8) 8) w = (0, 5) := kw
    have F2 : zWm h w 2 14 (sR (gNew H (7, 8) 8) w 7 (some (w + 1 + 1))) := F2
    rw [← eN] at F2
    simp (disch := (first | (simp only [gK_sI, gK_sJ, gK_sR, gK_sIA, gK_sJA, gR_sI, gR_sJ, gR_sIA, Nat.reduceLeDiff, Nat.reduceEqDiff, Nat.reduceLT, Int.reduceLE, Int.reduceLT, Int.reduceEq, zWt_i, zWt_l, zWt_r, zWt_n, kw] <;> omega) | omega | fail)) only [if_pos, if_neg, wI_id, zLc_lt, zLc_gt, zLc_eq, zLc_le, zLc_ge, Int.reduceEq, Int.reduceLE, Int.reduceLT, Int.reduceNeg, Int.reduceAdd, Int.reduceMul, Int.reduceSub, not_true_eq_false, not_false_eq_true, reduceIte, zPo_v, zPo_n, zPo_t, zKl_i, zKl_r, zKl_n, zKl_l, gK_sI, gK_sJ, gK_sR, gK_sIA, gK_sJA, gR_sI, gR_sJ, gJ_sI, gI_sJ, gI_sR, gJ_sR, gR_sIA, gJ_sIA, Nat.reduceLeDiff, Nat.reduceEqDiff, and_self, and_true, true_and, and_false, false_and, eX5_init_0, eX5_init_1, eX5_init_4, eX5_init_5, eX5_init_7, eX5_init_10, eX5_init_13, eX5_init_14, eX5_init_16, eX5_init_19, eX5_init_23, eX5_init_25, eX5_init_28, eX5_init_31, eX5_init_32, eX5_init_33, eX5_init_36, eX5_init_39, eX5_init_40, eX5_init_42, eX5_init_44, eX5_init_47, eX5_init_48, eX5_init_50, eX5_init_52, eX5_init_55, eX5_init_56, eX5_init_58, eX5_init_60, eX5_init_63, eX5_init_64, eX5_init_65, eX5_init_67, eX5_init_70, eX5_init_71, eX5_init_72, eX5_init_74, eX5_init_77, eX5_init_78, eX5_init_79, eX5_init_81, eX5_init_84, eX5_init_85, eX5_init_86, eX5_init_88, eX5_init_91, eX5_init_92, eX5_init_93, eX5_init_95, eX5_init_98, eX5_init_99, eX5_init_100, eX5_init_102, eX5_init_105, eX5_init_106, eX5_init_108, eX5_init_110, eX5_init_113, eX5_init_114, eX5_init_116, eX5_init_118, eX5_init_121, eX5_init_in, kw, Int.reduceToNat]
    exact k2 _ F2
  have k0 : ∀ H, zWm h w 0 0 H → zEv mX5_init d 4 [some (zr (some w))] [] H Q := fun H F => by
    have F2 := zWm_next (q := 6) (j := 6) F rfl rfl
    have kw : gK (gNew H (zKw 0) 6) w = (0, 5) := by
      rw [gK_new_ne (by have := F.1; omega)]
      exact (F.2.2.2.2.1 w (Or.inl (Nat.le_refl _))).trans hk
    have eN : gN H = w + 1 + 0 := F.1
    have kw : gK (gNew H (6, 6) 6) w = (0, 5) := kw
    have F2 : zWm h w 1 6 (sR (gNew H (6, 6) 6) w 6 (some (w + 1 + 0))) := F2
    rw [← eN] at F2
    simp (disch := (first | (simp only [gK_sI, gK_sJ, gK_sR, gK_sIA, gK_sJA, gR_sI, gR_sJ, gR_sIA, Nat.reduceLeDiff, Nat.reduceEqDiff, Nat.reduceLT, Int.reduceLE, Int.reduceLT, Int.reduceEq, zWt_i, zWt_l, zWt_r, zWt_n, kw] <;> omega) | omega | fail)) only [if_pos, if_neg, wI_id, zLc_lt, zLc_gt, zLc_eq, zLc_le, zLc_ge, Int.reduceEq, Int.reduceLE, Int.reduceLT, Int.reduceNeg, Int.reduceAdd, Int.reduceMul, Int.reduceSub, not_true_eq_false, not_false_eq_true, reduceIte, zPo_v, zPo_n, zPo_t, zKl_i, zKl_r, zKl_n, zKl_l, gK_sI, gK_sJ, gK_sR, gK_sIA, gK_sJA, gR_sI, gR_sJ, gJ_sI, gI_sJ, gI_sR, gJ_sR, gR_sIA, gJ_sIA, Nat.reduceLeDiff, Nat.reduceEqDiff, and_self, and_true, true_and, and_false, false_and, eX5_init_0, eX5_init_1, eX5_init_4, eX5_init_5, eX5_init_7, eX5_init_10, eX5_init_14, eX5_init_16, eX5_init_19, eX5_init_22, eX5_init_23, eX5_init_25, eX5_init_28, eX5_init_31, eX5_init_32, eX5_init_33, eX5_init_36, eX5_init_39, eX5_init_40, eX5_init_42, eX5_init_44, eX5_init_47, eX5_init_48, eX5_init_50, eX5_init_52, eX5_init_55, eX5_init_56, eX5_init_58, eX5_init_60, eX5_init_63, eX5_init_64, eX5_init_65, eX5_init_67, eX5_init_70, eX5_init_71, eX5_init_72, eX5_init_74, eX5_init_77, eX5_init_78, eX5_init_79, eX5_init_81, eX5_init_84, eX5_init_85, eX5_init_86, eX5_init_88, eX5_init_91, eX5_init_92, eX5_init_93, eX5_init_95, eX5_init_98, eX5_init_99, eX5_init_100, eX5_init_102, eX5_init_105, eX5_init_106, eX5_init_108, eX5_init_110, eX5_init_113, eX5_init_114, eX5_init_116, eX5_init_118, eX5_init_121, eX5_init_in, kw, Int.reduceToNat]
    exact k1 _ F2
  simp (disch := (first | (simp only [gK_sI, gK_sJ, gK_sR, gK_sIA, gK_sJA, gR_sI, gR_sJ, gR_sIA, Nat.reduceLeDiff, Nat.reduceEqDiff, Nat.reduceLT, Int.reduceLE, Int.reduceLT, Int.reduceEq, zWt_i, zWt_l, zWt_r, zWt_n, hk] <;> omega) | omega | fail)) only [if_pos, if_neg, wI_id, zLc_lt, zLc_gt, zLc_eq, zLc_le, zLc_ge, Int.reduceEq, Int.reduceLE, Int.reduceLT, Int.reduceNeg, Int.reduceAdd, Int.reduceMul, Int.reduceSub, not_true_eq_false, not_false_eq_true, reduceIte, zPo_v, zPo_n, zPo_t, zKl_i, zKl_r, zKl_n, zKl_l, gK_sI, gK_sJ, gK_sR, gK_sIA, gK_sJA, gR_sI, gR_sJ, gJ_sI, gI_sJ, gI_sR, gJ_sR, gR_sIA, gJ_sIA, Nat.reduceLeDiff, Nat.reduceEqDiff, and_self, and_true, true_and, and_false, false_and, eX5_init_0, eX5_init_1, eX5_init_5, eX5_init_7, eX5_init_10, eX5_init_13, eX5_init_14, eX5_init_16, eX5_init_19, eX5_init_22, eX5_init_23, eX5_init_25, eX5_init_28, eX5_init_31, eX5_init_32, eX5_init_33, eX5_init_36, eX5_init_39, eX5_init_40, eX5_init_42, eX5_init_44, eX5_init_47, eX5_init_48, eX5_init_50, eX5_init_52, eX5_init_55, eX5_init_56, eX5_init_58, eX5_init_60, eX5_init_63, eX5_init_64, eX5_init_65, eX5_init_67, eX5_init_70, eX5_init_71, eX5_init_72, eX5_init_74, eX5_init_77, eX5_init_78, eX5_init_79, eX5_init_81, eX5_init_84, eX5_init_85, eX5_init_86, eX5_init_88, eX5_init_91, eX5_init_92, eX5_init_93, eX5_init_95, eX5_init_98, eX5_init_99, eX5_init_100, eX5_init_102, eX5_init_105, eX5_init_106, eX5_init_108, eX5_init_110, eX5_init_113, eX5_init_114, eX5_init_116, eX5_init_118, eX5_init_121, eX5_init_in, hk]
  exact k0 h ⟨hN, rfl, rfl, fun i hi => by omega, fun b _ => rfl, fun i hi => by omega, fun b _ => rfl, fun b _ => ⟨rfl, rfl⟩, fun b b0 b1 => by omega⟩
/-- a house is made at H, its world behind it -/
theorem kX4_init {H : Nat} (hw : 65 ≤ H) (hk : gK h H = (0, 4)) (hN : gN h = H + 1) (hQ : ∀ h', zWn (H + 1) (gNew h (0, 5) 21) h' → Q (zRn (sR h' H 0 (some (H + 1))))) : zCm mX4_init d [zr (some H)] h Q := by
  have k1 : gK (gNew h (0, 5) 21) H = (0, 4) := by rw [gK_new_ne (by omega)]; exact hk
  have k3 : gK (gNew h (0, 5) 21) (H + 1) = (0, 5) := gK_new_eq hN.symm
  simp (disch := (first | (simp only [gK_sI, gK_sJ, gK_sR, gK_sIA, gK_sJA, gR_sI, gR_sJ, gR_sIA, Nat.reduceLeDiff, Nat.reduceEqDiff, Nat.reduceLT, Int.reduceLE, Int.reduceLT, Int.reduceEq, zWt_i, zWt_l, zWt_r, zWt_n, hk, k1, k3, hN] <;> omega) | omega | fail)) only [if_pos, if_neg, wI_id, zLc_lt, zLc_gt, zLc_eq, zLc_le, zLc_ge, Int.reduceEq, Int.reduceLE, Int.reduceLT, Int.reduceNeg, Int.reduceAdd, Int.reduceMul, Int.reduceSub, not_true_eq_false, not_false_eq_true, reduceIte, zPo_v, zPo_n, zPo_t, zKl_i, zKl_r, zKl_n, zKl_l, gK_sI, gK_sJ, gK_sR, gK_sIA, gK_sJA, gR_sI, gR_sJ, gJ_sI, gI_sJ, gI_sR, gJ_sR, gR_sIA, gJ_sIA, Nat.reduceLeDiff, Nat.reduceEqDiff, and_self, and_true, true_and, and_false, false_and, eX4_init_0, eX4_init_1, eX4_init_4, eX4_init_5, eX4_init_8, eX4_init_9, eX4_init_12, eX4_init_15, eX4_init_in, hk, hN, k3]
  refine kX5_init (h := gNew h (0, 5) 21) (w := H + 1) (by omega) (gK_new_eq hN.symm) (by rw [gN_new, hN]) (fun h' W => ?_)
  have k2 : gK h' H = (0, 4) := by
    rw [W.2.2.2.2.2.2.2.1 H (Or.inl (by omega))]
    exact k1
  simp (disch := (first | (simp only [gK_sI, gK_sJ, gK_sR, gK_sIA, gK_sJA, gR_sI, gR_sJ, gR_sIA, Nat.reduceLeDiff, Nat.reduceEqDiff, Nat.reduceLT, Int.reduceLE, Int.reduceLT, Int.reduceEq, zWt_i, zWt_l, zWt_r, zWt_n, k2] <;> omega) | omega | fail)) only [if_pos, if_neg, wI_id, zLc_lt, zLc_gt, zLc_eq, zLc_le, zLc_ge, Int.reduceEq, Int.reduceLE, Int.reduceLT, Int.reduceNeg, Int.reduceAdd, Int.reduceMul, Int.reduceSub, not_true_eq_false, not_false_eq_true, reduceIte, zPo_v, zPo_n, zPo_t, zKl_i, zKl_r, zKl_n, zKl_l, gK_sI, gK_sJ, gK_sR, gK_sIA, gK_sJA, gR_sI, gR_sJ, gJ_sI, gI_sJ, gI_sR, gJ_sR, gR_sIA, gJ_sIA, Nat.reduceLeDiff, Nat.reduceEqDiff, and_self, and_true, true_and, and_false, false_and, eX4_init_0, eX4_init_1, eX4_init_4, eX4_init_5, eX4_init_8, eX4_init_9, eX4_init_12, eX4_init_15, eX4_init_in, k2]
  exact hQ h' W
end O21
