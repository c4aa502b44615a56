/-! ===== BOTH SIDES JOINED, 11: pour ===== -/
set_option maxRecDepth 100000
set_option maxHeartbeats 1000000
section J11
variable {d : Nat}
theorem jO_pour {x p y q n : Int} (hp : inI p) (hq : inI q) : zOp zi d mX0_pour mX6_pour [zi x, zi p, zi y, zi q, zi n] := fun Q h a nm R k => by
  have K := zRxk R
  have e2 : ∀ x, zXk (sI h 65 7 x) := fun _ => K
  have k6 := zXk6 K
  have PM := zRmk R
  have K3 : ∀ w, zXk (sI (sI h 65 7 0) 73 6 w) := fun _ => K
  have hb : ∀ t, 0 ≤ t → t < 4 → -1 ≤ gI h 117 t ∧ gI h 117 t ≤ 60 := fun t t0 t1 => by
    rcases zRtt R t0 t1 with ⟨z, -⟩ | ⟨_, _, _, z, -⟩ <;> omega
  by_cases c1 : (0 ≤ x ∧ x < 4) ∧ (0 ≤ y ∧ y < 4) ∧ 0 ≤ p ∧ 0 ≤ q ∧ 0 ≤ n
  · obtain ⟨⟨x0, x1⟩, ⟨y0, y1⟩, p0, q0, n0⟩ := id c1
    rcases zRtt R x0 x1 with ⟨a1, a2⟩ | ⟨r, a1, a2, ⟨m0, m1⟩, ⟨s0, s1⟩, r0, r1, r2, r3⟩
    · have f1 : fPc1 h x p y q n = 2 := by
        unfold fPc1
        rw [if_pos c1, if_pos (Or.inl a1)]
      have h9 := zJ_ref (x := 0) (w := 2) (y := 2) R (MM := mX6_pour) (as := [zi x, zi p, zi y, zi q, zi n]) (fun Q2 u => cM_pour (h := sI (sI h 73 6 2) 65 7 2) PM hb hp hq (fun f9 => absurd (f1.symm.trans f9) (by decide)) (fun _ => by
        have f2 : fPc1 (sI (sI h 73 6 2) 65 7 2) x p y q n = 2 := f1
        rw [f2]
        exact u)) k
      rw [← zX_ref] at h9
      simp (disch := (first | (simp only [gK_sI, gK_sJ, gK_sR, gK_sIA, gK_sJA, gR_sI, gR_sJ, gR_sIA, Nat.reduceLeDiff, Nat.reduceEqDiff, Nat.reduceLT, Int.reduceLE, Int.reduceLT, Int.reduceEq, zWt_i, zWt_l, zWt_r, zWt_n, K, zXkk K, zXr6 K, zXk6 K, zXh0 K, e2, k6] <;> omega) | omega | fail)) only [if_pos, if_neg, wI_id, zLc_lt, zLc_gt, zLc_eq, zLc_le, zLc_ge, Int.reduceEq, Int.reduceLE, Int.reduceLT, Int.reduceNeg, Int.reduceAdd, Int.reduceMul, Int.reduceSub, not_true_eq_false, not_false_eq_true, reduceIte, zPo_v, zPo_n, zPo_t, zKl_i, zKl_r, zKl_n, zKl_l, gK_sI, gK_sJ, gK_sR, gK_sIA, gK_sJA, gR_sI, gR_sJ, gJ_sI, gI_sJ, gI_sR, gJ_sR, gR_sIA, gJ_sIA, Nat.reduceLeDiff, Nat.reduceEqDiff, and_self, and_true, true_and, and_false, false_and, eX0_pour_0, eX0_pour_1, eX0_pour_2, eX0_pour_5, eX0_pour_6, eX0_pour_7, eX0_pour_10, eX0_pour_11, eX0_pour_12, eX0_pour_15, eX0_pour_16, eX0_pour_19, eX0_pour_20, eX0_pour_21, eX0_pour_24, eX0_pour_25, eX0_pour_28, eX0_pour_30, eX0_pour_33, eX0_pour_35, eX0_pour_38, eX0_pour_39, eX0_pour_42, eX0_pour_43, eX0_pour_44, eX0_pour_47, eX0_pour_48, eX0_pour_49, eX0_pour_52, eX0_pour_54, eX0_pour_55, eX0_pour_56, eX0_pour_59, eX0_pour_61, eX0_pour_62, eX0_pour_64, eX0_pour_67, eX0_pour_69, eX0_pour_72, eX0_pour_75, eX0_pour_76, eX0_pour_79, eX0_pour_80, eX0_pour_82, eX0_pour_85, eX0_pour_87, eX0_pour_88, eX0_pour_90, eX0_pour_92, eX0_pour_94, eX0_pour_94x, eX0_pour_97, eX0_pour_100, eX0_pour_102, eX0_pour_103, eX0_pour_106, eX0_pour_107, eX0_pour_110, eX0_pour_111, eX0_pour_112, eX0_pour_113, eX0_pour_115, eX0_pour_116, eX0_pour_118, eX0_pour_121, tX0_pour_44_3, tX0_pour_49_3, tX0_pour_56_3, tX0_pour_64_3, tX0_pour_69_3, tX0_pour_82_3, tX0_pour_94_3, tX0_pour_94_31, tX0_pour_107_3, tX0_pour_110_3, eX0_pour_in, K, zXkk K, zXr6 K, zXk6 K, zXh0 K, kX0_want1, kX0_on_none (e2 0) x0 x1 a2, kX0_no (K3 2), gI_sI_eq, zU_eq]
      exact h9
    · rcases zRtt R y0 y1 with ⟨b1, b2⟩ | ⟨r', b1, b2, ⟨m0', m1'⟩, ⟨s0', s1'⟩, r0', r1', r2', r3'⟩
      · have f1 : fPc1 h x p y q n = 2 := by
          unfold fPc1
          rw [if_pos c1, if_pos (Or.inr b1)]
        have h9 := zJ_ref (x := 0) (w := 2) (y := 2) R (MM := mX6_pour) (as := [zi x, zi p, zi y, zi q, zi n]) (fun Q2 u => cM_pour (h := sI (sI h 73 6 2) 65 7 2) PM hb hp hq (fun f9 => absurd (f1.symm.trans f9) (by decide)) (fun _ => by
          have f2 : fPc1 (sI (sI h 73 6 2) 65 7 2) x p y q n = 2 := f1
          rw [f2]
          exact u)) k
        rw [← zX_ref] at h9
        simp (disch := (first | (simp only [gK_sI, gK_sJ, gK_sR, gK_sIA, gK_sJA, gR_sI, gR_sJ, gR_sIA, Nat.reduceLeDiff, Nat.reduceEqDiff, Nat.reduceLT, Int.reduceLE, Int.reduceLT, Int.reduceEq, zWt_i, zWt_l, zWt_r, zWt_n, K, zXkk K, zXr6 K, zXk6 K, zXh0 K, e2, k6] <;> omega) | omega | fail)) only [if_pos, if_neg, wI_id, zLc_lt, zLc_gt, zLc_eq, zLc_le, zLc_ge, Int.reduceEq, Int.reduceLE, Int.reduceLT, Int.reduceNeg, Int.reduceAdd, Int.reduceMul, Int.reduceSub, not_true_eq_false, not_false_eq_true, reduceIte, zPo_v, zPo_n, zPo_t, zKl_i, zKl_r, zKl_n, zKl_l, gK_sI, gK_sJ, gK_sR, gK_sIA, gK_sJA, gR_sI, gR_sJ, gJ_sI, gI_sJ, gI_sR, gJ_sR, gR_sIA, gJ_sIA, Nat.reduceLeDiff, Nat.reduceEqDiff, and_self, and_true, true_and, and_false, false_and, eX0_pour_0, eX0_pour_1, eX0_pour_2, eX0_pour_5, eX0_pour_6, eX0_pour_7, eX0_pour_10, eX0_pour_11, eX0_pour_12, eX0_pour_15, eX0_pour_16, eX0_pour_19, eX0_pour_20, eX0_pour_21, eX0_pour_24, eX0_pour_25, eX0_pour_28, eX0_pour_30, eX0_pour_33, eX0_pour_35, eX0_pour_38, eX0_pour_39, eX0_pour_42, eX0_pour_43, eX0_pour_44, eX0_pour_47, eX0_pour_48, eX0_pour_49, eX0_pour_52, eX0_pour_54, eX0_pour_55, eX0_pour_56, eX0_pour_59, eX0_pour_61, eX0_pour_62, eX0_pour_64, eX0_pour_67, eX0_pour_69, eX0_pour_72, eX0_pour_75, eX0_pour_76, eX0_pour_79, eX0_pour_80, eX0_pour_82, eX0_pour_85, eX0_pour_87, eX0_pour_88, eX0_pour_90, eX0_pour_92, eX0_pour_94, eX0_pour_94x, eX0_pour_97, eX0_pour_100, eX0_pour_102, eX0_pour_103, eX0_pour_106, eX0_pour_107, eX0_pour_110, eX0_pour_111, eX0_pour_112, eX0_pour_113, eX0_pour_115, eX0_pour_116, eX0_pour_118, eX0_pour_121, tX0_pour_44_3, tX0_pour_49_3, tX0_pour_56_3, tX0_pour_64_3, tX0_pour_69_3, tX0_pour_82_3, tX0_pour_94_3, tX0_pour_94_31, tX0_pour_107_3, tX0_pour_110_3, eX0_pour_in, K, zXkk K, zXr6 K, zXk6 K, zXh0 K, kX0_want1, kX0_on_some (e2 0) x0 x1 a1, kX0_on_none (e2 0) y0 y1 b2, kX0_no (K3 2), gI_sI_eq, zU_eq]
        exact h9
      · have c2 : ¬ (gI h 117 x = -1 ∨ gI h 117 y = -1) := fun e => e.elim a2 b2
        have hr : 65 ≤ r := by omega
        have hr' : 65 ≤ r' := by omega
        have so1 := fun d Q => kX0_sortOf (d := d) (Q := Q) (h := sI h 65 7 0) (s := gI h 116 x) (m := gI h 117 x) hr s0 s1 r2
        have so2 := fun d Q => kX0_sortOf (d := d) (Q := Q) (h := sI h 65 7 0) (s := gI h 116 y) (m := gI h 117 y) hr' s0' s1' r2'
        by_cases c5 : gI h 116 x = gI h 116 y
        · have em : (((gI h 117 x).toNat : Nat) : Int) = gI h 117 x := Int.toNat_of_nonneg m0
          have em' : (((gI h 117 y).toNat : Nat) : Int) = gI h 117 y := Int.toNat_of_nonneg m0'
          have kz : 1 ≤ zKd (gI h 116 x) ∧ zKd (gI h 116 x) ≤ 4 := by
            unfold zKd
            (repeat' split) <;> decide
          have ho : zCpOk (sI h 65 7 0) r p r' q n := by
            refine ⟨hr, hr', ?_, ?_, p0, q0, n0⟩
            · show 1 ≤ (gK h r).1
              rw [r2]
              exact kz.1
            · show (gK h r).1 = (gK h r').1
              rw [r2, r2', c5]
          have hi : zCpIn (sI h 65 7 0) r p r' q n ↔ (p + n ≤ gI h 117 x ∧ q + n ≤ gI h 117 y) := by
            show (p + n ≤ ((gK h r).2 : Int) ∧ q + n ≤ ((gK h r').2 : Int)) ↔ _
            rw [r2, r2']
            show (p + n ≤ (((gI h 117 x).toNat : Nat) : Int) ∧ q + n ≤ (((gI h 117 y).toNat : Nat) : Int)) ↔ _
            rw [em, em']
          simp (disch := (first | (simp only [gK_sI, gK_sJ, gK_sR, gK_sIA, gK_sJA, gR_sI, gR_sJ, gR_sIA, Nat.reduceLeDiff, Nat.reduceEqDiff, Nat.reduceLT, Int.reduceLE, Int.reduceLT, Int.reduceEq, zWt_i, zWt_l, zWt_r, zWt_n, K, zXkk K, zXr6 K, zXk6 K, zXh0 K, e2, k6] <;> omega) | omega | fail)) only [if_pos, if_neg, wI_id, zLc_lt, zLc_gt, zLc_eq, zLc_le, zLc_ge, Int.reduceEq, Int.reduceLE, Int.reduceLT, Int.reduceNeg, Int.reduceAdd, Int.reduceMul, Int.reduceSub, not_true_eq_false, not_false_eq_true, reduceIte, zPo_v, zPo_n, zPo_t, zKl_i, zKl_r, zKl_n, zKl_l, gK_sI, gK_sJ, gK_sR, gK_sIA, gK_sJA, gR_sI, gR_sJ, gJ_sI, gI_sJ, gI_sR, gJ_sR, gR_sIA, gJ_sIA, Nat.reduceLeDiff, Nat.reduceEqDiff, and_self, and_true, true_and, and_false, false_and, eX0_pour_0, eX0_pour_1, eX0_pour_2, eX0_pour_5, eX0_pour_6, eX0_pour_7, eX0_pour_10, eX0_pour_11, eX0_pour_12, eX0_pour_15, eX0_pour_16, eX0_pour_19, eX0_pour_20, eX0_pour_21, eX0_pour_24, eX0_pour_25, eX0_pour_28, eX0_pour_30, eX0_pour_33, eX0_pour_35, eX0_pour_38, eX0_pour_39, eX0_pour_42, eX0_pour_43, eX0_pour_44, eX0_pour_47, eX0_pour_48, eX0_pour_49, eX0_pour_52, eX0_pour_54, eX0_pour_55, eX0_pour_56, eX0_pour_59, eX0_pour_61, eX0_pour_62, eX0_pour_64, eX0_pour_67, eX0_pour_69, eX0_pour_72, eX0_pour_75, eX0_pour_76, eX0_pour_79, eX0_pour_80, eX0_pour_82, eX0_pour_85, eX0_pour_87, eX0_pour_88, eX0_pour_90, eX0_pour_92, eX0_pour_97, eX0_pour_100, eX0_pour_102, eX0_pour_103, eX0_pour_106, eX0_pour_107, eX0_pour_110, eX0_pour_111, eX0_pour_112, eX0_pour_113, eX0_pour_115, eX0_pour_116, eX0_pour_118, eX0_pour_121, tX0_pour_44_3, tX0_pour_49_3, tX0_pour_56_3, tX0_pour_64_3, tX0_pour_69_3, tX0_pour_82_3, tX0_pour_94_3, tX0_pour_94_31, tX0_pour_107_3, tX0_pour_110_3, eX0_pour_in, K, zXkk K, zXr6 K, zXk6 K, zXh0 K, kX0_want1, kX0_on_some (e2 0) x0 x1 a1, kX0_on_some (e2 0) y0 y1 b1, so1, so2, c5]
          by_cases c6 : gI h 117 x - p < n ∨ gI h 117 y - q < n
          · have f1 : fPc1 h x p y q n = 3 := by
              unfold fPc1
              rw [if_pos c1, if_neg c2, if_neg (fun e => e c5), if_pos c6]
            refine (eX0_pour_94x ho (by show (gK h r).1 ≤ 4; rw [r2]; exact kz.2) (fun z => by have := hi.mp z; omega)).mpr ?_
            rw [tX0_pour_94_31]
            have e9 : gTick (sI h 65 7 0) 3 400 = sI (gTick h 3 400) 65 7 0 := rfl
            rw [e9]
            have KT : zXk (sI (gTick h 3 400) 65 7 0) := K
            have KT3 : zXk (sI (sI (gTick h 3 400) 65 7 0) 73 6 3) := K
            have kT6 := zXk6 KT
            have kT7 := zXk6 KT3
            have zE := zE3
            simp (disch := (first | (simp only [gK_sI, gK_sJ, gK_sR, gK_sIA, gK_sJA, gR_sI, gR_sJ, gR_sIA, Nat.reduceLeDiff, Nat.reduceEqDiff, Nat.reduceLT, Int.reduceLE, Int.reduceLT, Int.reduceEq, zWt_i, zWt_l, zWt_r, zWt_n, KT, zXkk KT, zXr6 KT, zXk6 KT, zXh0 KT, kT6, kT7, zE] <;> omega) | omega | fail)) only [if_pos, if_neg, wI_id, zLc_lt, zLc_gt, zLc_eq, zLc_le, zLc_ge, Int.reduceEq, Int.reduceLE, Int.reduceLT, Int.reduceNeg, Int.reduceAdd, Int.reduceMul, Int.reduceSub, not_true_eq_false, not_false_eq_true, reduceIte, zPo_v, zPo_n, zPo_t, zKl_i, zKl_r, zKl_n, zKl_l, gK_sI, gK_sJ, gK_sR, gK_sIA, gK_sJA, gR_sI, gR_sJ, gJ_sI, gI_sJ, gI_sR, gJ_sR, gR_sIA, gJ_sIA, Nat.reduceLeDiff, Nat.reduceEqDiff, and_self, and_true, true_and, and_false, false_and, eX0_pour_0, eX0_pour_1, eX0_pour_2, eX0_pour_5, eX0_pour_6, eX0_pour_7, eX0_pour_10, eX0_pour_11, eX0_pour_12, eX0_pour_15, eX0_pour_16, eX0_pour_19, eX0_pour_20, eX0_pour_21, eX0_pour_24, eX0_pour_25, eX0_pour_28, eX0_pour_30, eX0_pour_33, eX0_pour_35, eX0_pour_38, eX0_pour_39, eX0_pour_42, eX0_pour_43, eX0_pour_44, eX0_pour_47, eX0_pour_48, eX0_pour_49, eX0_pour_52, eX0_pour_54, eX0_pour_55, eX0_pour_56, eX0_pour_59, eX0_pour_61, eX0_pour_62, eX0_pour_64, eX0_pour_67, eX0_pour_69, eX0_pour_72, eX0_pour_75, eX0_pour_76, eX0_pour_79, eX0_pour_80, eX0_pour_82, eX0_pour_85, eX0_pour_87, eX0_pour_88, eX0_pour_90, eX0_pour_92, eX0_pour_94, eX0_pour_94x, eX0_pour_97, eX0_pour_100, eX0_pour_102, eX0_pour_103, eX0_pour_106, eX0_pour_107, eX0_pour_110, eX0_pour_111, eX0_pour_112, eX0_pour_113, eX0_pour_115, eX0_pour_116, eX0_pour_118, eX0_pour_121, tX0_pour_44_3, tX0_pour_49_3, tX0_pour_56_3, tX0_pour_64_3, tX0_pour_69_3, tX0_pour_82_3, tX0_pour_94_3, tX0_pour_94_31, tX0_pour_107_3, tX0_pour_110_3, eX0_pour_in, KT, zXkk KT, zXr6 KT, zXk6 KT, zXh0 KT, kX3_by KT, kT6, kT7, kX0_no KT3, gI_sI_eq, zU_eq]
            rw [zX_ref]
            refine k 0 _ ⟨by rw [gI_sI_ne (by decide), gI_sI_ne (by decide)]; rfl, rfl, rfl⟩ (fun Q2 h2 => cM_pour (h := sI (sI (gTick h 3 400) 73 6 3) 65 7 3) PM hb hp hq (fun f9 => absurd (f1.symm.trans f9) (by decide)) (fun _ => ?_))
            have f2 : fPc1 (sI (sI (gTick h 3 400) 73 6 3) 65 7 3) x p y q n = 3 := f1
            rw [f2]
            refine h2 _ a nm (zR_st (zR_tick R)) ⟨?_, rfl, rfl⟩ ⟨by show gC h + 3 ≤ _; omega, by show gS h + 400 ≤ _; omega, by show gN h ≤ _; omega⟩
            rw [gI_sI_ne (by decide), gI_sI_ne (by decide), gI_sI_ne (by decide)]
            rfl
          · have f1 : fPc1 h x p y q n = 0 := by
              unfold fPc1
              rw [if_pos c1, if_neg c2, if_neg (fun e => e c5), if_neg c6]
            refine (eX0_pour_94 ho (hi.mpr (by omega))).mpr ?_
            simp (disch := (first | (simp only [gK_sI, gK_sJ, gK_sR, gK_sIA, gK_sJA, gR_sI, gR_sJ, gR_sIA, Nat.reduceLeDiff, Nat.reduceEqDiff, Nat.reduceLT, Int.reduceLE, Int.reduceLT, Int.reduceEq, zWt_i, zWt_l, zWt_r, zWt_n] <;> omega) | omega | fail)) only [if_pos, if_neg, wI_id, zLc_lt, zLc_gt, zLc_eq, zLc_le, zLc_ge, Int.reduceEq, Int.reduceLE, Int.reduceLT, Int.reduceNeg, Int.reduceAdd, Int.reduceMul, Int.reduceSub, not_true_eq_false, not_false_eq_true, reduceIte, zPo_v, zPo_n, zPo_t, zKl_i, zKl_r, zKl_n, zKl_l, gK_sI, gK_sJ, gK_sR, gK_sIA, gK_sJA, gR_sI, gR_sJ, gJ_sI, gI_sJ, gI_sR, gJ_sR, gR_sIA, gJ_sIA, Nat.reduceLeDiff, Nat.reduceEqDiff, and_self, and_true, true_and, and_false, false_and, eX0_pour_0, eX0_pour_1, eX0_pour_2, eX0_pour_5, eX0_pour_6, eX0_pour_7, eX0_pour_10, eX0_pour_11, eX0_pour_12, eX0_pour_15, eX0_pour_16, eX0_pour_19, eX0_pour_20, eX0_pour_21, eX0_pour_24, eX0_pour_25, eX0_pour_28, eX0_pour_30, eX0_pour_33, eX0_pour_35, eX0_pour_38, eX0_pour_39, eX0_pour_42, eX0_pour_43, eX0_pour_44, eX0_pour_47, eX0_pour_48, eX0_pour_49, eX0_pour_52, eX0_pour_54, eX0_pour_55, eX0_pour_56, eX0_pour_59, eX0_pour_61, eX0_pour_62, eX0_pour_64, eX0_pour_67, eX0_pour_69, eX0_pour_72, eX0_pour_75, eX0_pour_76, eX0_pour_79, eX0_pour_80, eX0_pour_82, eX0_pour_85, eX0_pour_87, eX0_pour_88, eX0_pour_90, eX0_pour_92, eX0_pour_94, eX0_pour_94x, eX0_pour_97, eX0_pour_100, eX0_pour_102, eX0_pour_103, eX0_pour_106, eX0_pour_107, eX0_pour_110, eX0_pour_111, eX0_pour_112, eX0_pour_113, eX0_pour_115, eX0_pour_116, eX0_pour_118, eX0_pour_121, tX0_pour_44_3, tX0_pour_49_3, tX0_pour_56_3, tX0_pour_64_3, tX0_pour_69_3, tX0_pour_82_3, tX0_pour_94_3, tX0_pour_94_31, tX0_pour_107_3, tX0_pour_110_3, eX0_pour_in]
            have n129 : ∀ b, b < 129 → b ≠ r' := fun b hb' => by omega
            generalize hH : zCpy (sI h 65 7 0) r p r' q n = H1
            have hH2 : (gI h 116 x = 3 ∧ H1 = sJA (sI h 65 7 0) r' (zCpF (gJ h r) (gJ h r') p q n)) ∨ (gI h 116 x ≠ 3 ∧ H1 = sIA (sI h 65 7 0) r' (zCpF (gI h r) (gI h r') p q n)) := by
              rw [← hH]
              have ek : (gK (sI h 65 7 0) r).1 = zKd (gI h 116 x) := by
                show (gK h r).1 = _
                rw [r2]
              unfold zCpy
              rw [ek]
              by_cases c7 : gI h 116 x = 3
              · refine Or.inl ⟨c7, ?_⟩
                rw [c7]
                rfl
              · refine Or.inr ⟨c7, ?_⟩
                have kz3 : zKd (gI h 116 x) ≤ 3 := by
                  unfold zKd
                  (repeat' split) <;> first | decide | (exfalso; omega)
                rw [if_pos kz3, gI_sI_ne (show r ≠ 65 by omega), gI_sI_ne (show r' ≠ 65 by omega)]
            have HK : gK H1 = gK h := by rcases hH2 with ⟨-, e⟩ | ⟨-, e⟩ <;> (rw [e]; rfl)
            have HR : gR H1 = gR h := by rcases hH2 with ⟨-, e⟩ | ⟨-, e⟩ <;> (rw [e]; rfl)
            have H1' : H1.1 = h.1 := by rcases hH2 with ⟨-, e⟩ | ⟨-, e⟩ <;> (rw [e]; rfl)
            have HI : ∀ b, b ≠ r' → b ≠ 65 → gI H1 b = gI h b := fun b b1 b2 => by
              rcases hH2 with ⟨-, e⟩ | ⟨-, e⟩
              · rw [e]
                show gI (sI h 65 7 0) b = _
                rw [gI_sI_ne b2]
              · rw [e, gI_sIA_ne b1, gI_sI_ne b2]
            have HJ : ∀ b, b ≠ r' → gJ H1 b = gJ h b := fun b b1 => by
              rcases hH2 with ⟨-, e⟩ | ⟨-, e⟩
              · rw [e]
                exact if_neg b1
              · rw [e]
                rfl
            have H65 : ∀ j, gI H1 65 j = if j = 7 then 0 else gI h 65 j := fun j => by
              have e8 : gI H1 65 = gI (sI h 65 7 0) 65 := by
                rcases hH2 with ⟨-, e⟩ | ⟨-, e⟩
                · rw [e]
                  rfl
                · rw [e, gI_sIA_ne (n129 65 (by decide))]
              rw [e8, gI_sI_eq]
              rfl
            have HV : ∀ kk, zTv H1 (gI h 116 y) r' kk = if q ≤ kk ∧ kk < q + n then zTv h (gI h 116 x) r (p + (kk - q)) else zTv h (gI h 116 y) r' kk := fun kk => by
              rw [← c5]
              unfold zTv
              rcases hH2 with ⟨c7, e⟩ | ⟨c7, e⟩
              · rw [if_pos c7, if_pos c7, if_pos c7, e]
                have : gJ (sJA (sI h 65 7 0) r' (zCpF (gJ h r) (gJ h r') p q n)) r' = zCpF (gJ h r) (gJ h r') p q n := if_pos rfl
                rw [this]
                rfl
              · rw [if_neg c7, if_neg c7, if_neg c7, e, gI_sIA_eq]
                rfl
            have PM1 : zMk H1 := by
              unfold zMk at PM ⊢
              rw [HK, HR]
              exact PM
            have I116 : gI H1 116 = gI h 116 := HI 116 (n129 _ (by decide)) (by decide)
            have I117 : gI H1 117 = gI h 117 := HI 117 (n129 _ (by decide)) (by decide)
            have f2 : fPc1 H1 x p y q n = 0 := by
              unfold fPc1
              rw [I116, I117]
              exact f1
            refine k 1 H1 ⟨HI 0 (by omega) (by decide), by rw [HK], by rw [HK]⟩ (fun Q2 h2 => cM_pour PM1 (by rw [I117]; exact hb) hp hq (fun _ => ?_) (fun u => absurd f2 u))
            rw [HJ 118 (n129 _ (by decide))]
            generalize hG : sI (sJA H1 118 (fPour (gJ h 118) x p y q n)) 113 2 0 = h3
            have G1 : gK h3 = gK h := by rw [← hG]; exact HK
            have G2 : gR h3 = gR h := by rw [← hG]; exact HR
            have G3 : h3.1 = h.1 := by rw [← hG]; exact H1'
            have G4 : ∀ b, b ≠ 113 → gI h3 b = gI H1 b := fun b b1 => by
              rw [← hG, gI_sI_ne b1]
              rfl
            have G5 : ∀ j, j ≠ 2 → gI h3 113 j = gI h 113 j := fun j hj => by
              rw [← hG, gI_sI_eq, zU_ne hj]
              exact congrFun (HI 113 (n129 _ (by decide)) (by decide)) j
            have G6 : gI h3 113 2 = 0 := by rw [← hG, gI_sI_eq, zU_eq]
            have G7 : ∀ b, b ≠ 118 → gJ h3 b = gJ H1 b := fun b b1 => by
              rw [← hG]
              show gJ (sJA H1 118 (fPour (gJ h 118) x p y q n)) b = _
              exact if_neg b1
            have G8 : gJ h3 118 = fPour (gJ h 118) x p y q n := by
              rw [← hG]
              show (if (118 : Nat) = 118 then fPour (gJ h 118) x p y q n else gJ H1 118) = _
              exact if_pos rfl
            have rowr : zRow h r' := ⟨y, y0, y1, b1⟩
            refine h2 h3 a nm (zR_rows R (congrArg Prod.fst G3) G1 G2 (fun b b1 b2 b3 b4 => ?_) (fun b b1 b2 => ?_) (fun j hj => ?_) G5 ?_ ?_ (fun u u0 u1 r9 hr9 kk k0 k1 => ?_)) ⟨?_, by rw [G1], by rw [G1]⟩ (zBu_0 G3)
            · rw [G4 b b3, HI b (fun e => b4 (e ▸ rowr)) b1]
            · rw [G7 b b1, HJ b (fun e => b2 (e ▸ rowr))]
            · rw [G4 65 (by decide), H65, if_neg hj]
            · rw [G4 71 (by decide), HI 71 (n129 _ (by decide)) (by decide)]
            · rw [G4 65 (by decide), H65, if_pos rfl, G6]
            · have h129 : 129 ≤ r9 := (zRow_f R ⟨u, u0, u1, hr9⟩).1
              have ezt : ∀ s', zTv h3 s' r9 kk = zTv H1 s' r9 kk := fun s' => by
                unfold zTv
                rw [G4 r9 (by omega), G7 r9 (by omega)]
              rw [ezt, G8]
              show _ = if 60 * y + q ≤ 60 * u + kk ∧ 60 * u + kk < 60 * y + q + n then gJ h 118 (60 * x + p + (60 * u + kk - (60 * y + q))) else gJ h 118 (60 * u + kk)
              by_cases cu : u = y
              · subst cu
                have er : r9 = r' := Option.some.inj (hr9.symm.trans b1)
                subst er
                rw [HV]
                by_cases ck : q ≤ kk ∧ kk < q + n
                · rw [if_pos ck, if_pos (by omega), r3 (p + (kk - q)) (by omega) (by omega)]
                  congr 1
                  omega
                · rw [if_neg ck, if_neg (by omega)]
                  exact r3' kk k0 k1
              · have ne : r9 ≠ r' := fun e => (zRtr R).2 u y u0 u1 y0 y1 cu r9 hr9 (e ▸ b1)
                have hmu := (hb u u0 u1).2
                rw [if_neg (by omega)]
                rcases zRtt R u0 u1 with ⟨-, z⟩ | ⟨r8, z1, -, z2⟩
                · rw [z] at hr9
                  cases hr9
                · have er : r9 = r8 := Option.some.inj (hr9.symm.trans z1)
                  subst er
                  have e8 := z2.2.2.2.2.2 kk k0 k1
                  unfold zTv at e8 ⊢
                  rw [HI r9 ne (by omega), HJ r9 ne]
                  exact e8
            · rw [G4 0 (by decide)]
              exact HI 0 (by omega) (by decide)
        · have f1 : fPc1 h x p y q n = 8 := by
            unfold fPc1
            rw [if_pos c1, if_neg c2, if_pos c5]
          have h9 := zJ_ref (x := 0) (w := 8) (y := 8) R (MM := mX6_pour) (as := [zi x, zi p, zi y, zi q, zi n]) (fun Q2 u => cM_pour (h := sI (sI h 73 6 8) 65 7 8) PM hb hp hq (fun f9 => absurd (f1.symm.trans f9) (by decide)) (fun _ => by
            have f2 : fPc1 (sI (sI h 73 6 8) 65 7 8) x p y q n = 8 := f1
            rw [f2]
            exact u)) k
          rw [← zX_ref] at h9
          simp (disch := (first | (simp only [gK_sI, gK_sJ, gK_sR, gK_sIA, gK_sJA, gR_sI, gR_sJ, gR_sIA, Nat.reduceLeDiff, Nat.reduceEqDiff, Nat.reduceLT, Int.reduceLE, Int.reduceLT, Int.reduceEq, zWt_i, zWt_l, zWt_r, zWt_n, K, zXkk K, zXr6 K, zXk6 K, zXh0 K, e2, k6] <;> omega) | omega | fail)) only [if_pos, if_neg, wI_id, zLc_lt, zLc_gt, zLc_eq, zLc_le, zLc_ge, Int.reduceEq, Int.reduceLE, Int.reduceLT, Int.reduceNeg, Int.reduceAdd, Int.reduceMul, Int.reduceSub, not_true_eq_false, not_false_eq_true, reduceIte, zPo_v, zPo_n, zPo_t, zKl_i, zKl_r, zKl_n, zKl_l, gK_sI, gK_sJ, gK_sR, gK_sIA, gK_sJA, gR_sI, gR_sJ, gJ_sI, gI_sJ, gI_sR, gJ_sR, gR_sIA, gJ_sIA, Nat.reduceLeDiff, Nat.reduceEqDiff, and_self, and_true, true_and, and_false, false_and, eX0_pour_0, eX0_pour_1, eX0_pour_2, eX0_pour_5, eX0_pour_6, eX0_pour_7, eX0_pour_10, eX0_pour_11, eX0_pour_12, eX0_pour_15, eX0_pour_16, eX0_pour_19, eX0_pour_20, eX0_pour_21, eX0_pour_24, eX0_pour_25, eX0_pour_28, eX0_pour_30, eX0_pour_33, eX0_pour_35, eX0_pour_38, eX0_pour_39, eX0_pour_42, eX0_pour_43, eX0_pour_44, eX0_pour_47, eX0_pour_48, eX0_pour_49, eX0_pour_52, eX0_pour_54, eX0_pour_55, eX0_pour_56, eX0_pour_59, eX0_pour_61, eX0_pour_62, eX0_pour_64, eX0_pour_67, eX0_pour_69, eX0_pour_72, eX0_pour_75, eX0_pour_76, eX0_pour_79, eX0_pour_80, eX0_pour_82, eX0_pour_85, eX0_pour_87, eX0_pour_88, eX0_pour_90, eX0_pour_92, eX0_pour_97, eX0_pour_100, eX0_pour_102, eX0_pour_103, eX0_pour_106, eX0_pour_107, eX0_pour_110, eX0_pour_111, eX0_pour_112, eX0_pour_113, eX0_pour_115, eX0_pour_116, eX0_pour_118, eX0_pour_121, tX0_pour_44_3, tX0_pour_49_3, tX0_pour_56_3, tX0_pour_64_3, tX0_pour_69_3, tX0_pour_82_3, tX0_pour_94_3, tX0_pour_94_31, tX0_pour_107_3, tX0_pour_110_3, eX0_pour_in, K, zXkk K, zXr6 K, zXk6 K, zXh0 K, kX0_want1, kX0_want0 (e2 0), kX0_on_some (e2 0) x0 x1 a1, kX0_on_some (e2 0) y0 y1 b1, so1, so2, c5, kX0_no (K3 8), gI_sI_eq, zU_eq]
          exact h9
  · have f1 : fPc1 h x p y q n = 1 := if_neg c1
    have h9 := zJ_ref (x := 0) (w := 1) (y := 1) R (MM := mX6_pour) (as := [zi x, zi p, zi y, zi q, zi n]) (fun Q2 u => cM_pour (h := sI (sI h 73 6 1) 65 7 1) PM hb hp hq (fun f9 => absurd (f1.symm.trans f9) (by decide)) (fun _ => by
      have f2 : fPc1 (sI (sI h 73 6 1) 65 7 1) x p y q n = 1 := f1
      rw [f2]
      exact u)) k
    rw [← zX_ref] at h9
    simp (disch := (first | (simp only [gK_sI, gK_sJ, gK_sR, gK_sIA, gK_sJA, gR_sI, gR_sJ, gR_sIA, Nat.reduceLeDiff, Nat.reduceEqDiff, Nat.reduceLT, Int.reduceLE, Int.reduceLT, Int.reduceEq, zWt_i, zWt_l, zWt_r, zWt_n, K, zXkk K, zXr6 K, zXk6 K, zXh0 K, e2, k6] <;> omega) | omega | fail)) only [wI_id, zLc_lt, zLc_gt, zLc_eq, zLc_le, zLc_ge, Int.reduceEq, Int.reduceLE, Int.reduceLT, Int.reduceNeg, Int.reduceAdd, Int.reduceMul, Int.reduceSub, not_true_eq_false, not_false_eq_true, reduceIte, zPo_v, zPo_n, zPo_t, zKl_i, zKl_r, zKl_n, zKl_l, gK_sI, gK_sJ, gK_sR, gK_sIA, gK_sJA, gR_sI, gR_sJ, gJ_sI, gI_sJ, gI_sR, gJ_sR, gR_sIA, gJ_sIA, Nat.reduceLeDiff, Nat.reduceEqDiff, and_self, and_true, true_and, and_false, false_and, eX0_pour_0, eX0_pour_1, eX0_pour_2, eX0_pour_5, eX0_pour_6, eX0_pour_7, eX0_pour_10, eX0_pour_11, eX0_pour_12, eX0_pour_15, eX0_pour_16, eX0_pour_19, eX0_pour_20, eX0_pour_21, eX0_pour_24, eX0_pour_25, eX0_pour_28, eX0_pour_30, eX0_pour_33, eX0_pour_35, eX0_pour_39, eX0_pour_42, eX0_pour_43, eX0_pour_44, eX0_pour_47, eX0_pour_48, eX0_pour_49, eX0_pour_52, eX0_pour_54, eX0_pour_55, eX0_pour_56, eX0_pour_59, eX0_pour_61, eX0_pour_62, eX0_pour_64, eX0_pour_67, eX0_pour_69, eX0_pour_72, eX0_pour_75, eX0_pour_76, eX0_pour_79, eX0_pour_80, eX0_pour_82, eX0_pour_85, eX0_pour_87, eX0_pour_88, eX0_pour_90, eX0_pour_92, eX0_pour_97, eX0_pour_100, eX0_pour_102, eX0_pour_103, eX0_pour_106, eX0_pour_107, eX0_pour_110, eX0_pour_111, eX0_pour_112, eX0_pour_113, eX0_pour_115, eX0_pour_116, eX0_pour_118, eX0_pour_121, tX0_pour_44_3, tX0_pour_49_3, tX0_pour_56_3, tX0_pour_64_3, tX0_pour_69_3, tX0_pour_82_3, tX0_pour_94_3, tX0_pour_94_31, tX0_pour_107_3, tX0_pour_110_3, eX0_pour_in, K, zXkk K, zXr6 K, zXk6 K, zXh0 K, kX0_want0 (e2 0), kX0_no (K3 1), gI_sI_eq, zU_eq]
    (repeat' split) <;> first | exact h9 | (exfalso; omega)
end J11
