/-! ===== BOTH SIDES JOINED, 4: trays, the calls ===== -/
set_option maxRecDepth 100000
theorem sI_comm {h : zHp} {b c : Nat} {j k x y : Int} (e : b ≠ c) : sI (sI h b j x) c k y = sI (sI h c k y) b j x := by
  show sIA (sIA h b (zU (gI h b) j x)) c (zU (gI (sIA h b (zU (gI h b) j x)) c) k y) = sIA (sIA h c (zU (gI h c) k y)) b (zU (gI (sIA h c (zU (gI h c) k y)) b) j x)
  rw [gI_sIA_ne (Ne.symm e), gI_sIA_ne e, sIA_comm e]
section J4
variable {d : Nat} {h : zHp} {Q : zRs → Prop}
theorem zR_stT {a nm : Int → Int} (R : zRl h a nm) : zRl (sI (gTick (sI h 65 7 3) 3 400) 113 2 3) a nm := by
  have e10 : sI (gTick h 3 400) 65 7 3 = gTick (sI h 65 7 3) 3 400 := rfl
  rw [← e10]
  exact zR_st0 (zR_tick R)
theorem zSc_stT : zSc h (sI (gTick (sI h 65 7 3) 3 400) 113 2 3) := by
  refine ⟨?_, rfl, rfl⟩
  rw [gI_sI_ne (by decide)]
  show gI (sI h 65 7 3) 0 = _
  rw [gI_sI_ne (by decide)]
theorem zBu_stT : zBu h (sI (gTick (sI h 65 7 3) 3 400) 113 2 3) := ⟨by show gC h + 3 ≤ _; omega, by show gS h + 400 ≤ _; omega, by show gN h ≤ _; omega⟩
/-- the component's refusal -/
theorem zX_ref {w : Int} : sI (sI (sI h 65 7 0) 73 6 w) 65 7 w = sI (sI h 73 6 w) 65 7 w := by
  rw [sI_comm (show (65 : Nat) ≠ 73 by decide), sI2]
theorem zJ_ref {MM : zMi} {as : List zAv} {a nm : Int → Int} {x w y : Int} (R : zRl h a nm) (hM : ∀ Q2 : zRs → Prop, Q2 (zRv (zi x) (sI (sI (sI h 73 6 y) 65 7 w) 113 2 w)) → zCm MM d (zr (some 113) :: as) (sI (sI h 73 6 y) 65 7 w) Q2) (k : ∀ x h1, zSc h h1 → (∀ Q2 : zRs → Prop, (∀ h2 a2 nm2, zRl h2 a2 nm2 → zSc h h2 → zBu h h2 → Q2 (zRv (zi x) h2)) → zCm MM d (zr (some 113) :: as) h1 Q2) → Q (zRv (zi x) h1)) : Q (zRv (zi x) (sI (sI h 73 6 y) 65 7 w)) := by
  refine k x _ ⟨rfl, rfl, rfl⟩ (fun Q2 h2 => hM Q2 (h2 _ a nm (zR_st R) ⟨rfl, rfl, rfl⟩ (zBu_0 rfl)))
theorem cM_write {t p x : Int} (P : zMk h) (hs : fWr h t p = 0 → (0 ≤ gI h 116 t ∧ gI h 116 t ≤ 3) ∧ (0 ≤ t ∧ t < 4) ∧ 0 ≤ p ∧ p < 60) (hy : fWr h t p = 0 → Q (zRv (zi 1) (sI (sJ h 118 (60 * t + p) (fCut (gI h 116 t) x)) 113 2 0))) (hn : fWr h t p ≠ 0 → Q (zRv (zi 0) (sI h 113 2 (fWr h t p)))) : zCm mX6_write d [zr (some 113), zi t, zi p, zl x] h Q := by
  generalize hw : fWr h t p = w at hs hy hn
  have ew : ∀ d Q, zCm mX6_wrongPlace d [zr (some 113), zi t, zi p] h Q ↔ Q (zRv (zi w) h) := fun d Q => by rw [kM_wrongPlace P, hw]
  have P9 : ∀ j y, zMk (sJ h 118 j y) := fun _ _ => P
  by_cases c : w = 0
  · obtain ⟨⟨s0, s1⟩, ⟨t0, t1⟩, p0, p1⟩ := hs c
    have hy' := hy c
    clear hy hn
    subst c
    simp (disch := (first | (simp only [gK_sI, gK_sJ, gK_sR, gK_sIA, gK_sJA, gR_sI, gR_sJ, gR_sIA, Nat.reduceLeDiff, Nat.reduceEqDiff, Nat.reduceLT, Int.reduceLE, Int.reduceLT, Int.reduceEq, zWt_i, zWt_l, zWt_r, zWt_n, P, zMkk P, zMr5 P, zMk5 P, zMr7 P, zMk7 P] <;> omega) | omega | fail)) only [if_pos, if_neg, wI_id, zLc_lt, zLc_gt, zLc_eq, zLc_le, zLc_ge, Int.reduceEq, Int.reduceLE, Int.reduceLT, Int.reduceNeg, Int.reduceAdd, Int.reduceMul, Int.reduceSub, not_true_eq_false, not_false_eq_true, reduceIte, zPo_v, zPo_n, zPo_t, zKl_i, zKl_r, zKl_n, zKl_l, gK_sI, gK_sJ, gK_sR, gK_sIA, gK_sJA, gR_sI, gR_sJ, gJ_sI, gI_sJ, gI_sR, gJ_sR, gR_sIA, gJ_sIA, Nat.reduceLeDiff, Nat.reduceEqDiff, and_self, and_true, true_and, and_false, false_and, eX6_write_0, eX6_write_1, eX6_write_2, eX6_write_3, eX6_write_6, eX6_write_8, eX6_write_10, eX6_write_13, eX6_write_14, eX6_write_17, eX6_write_19, eX6_write_20, eX6_write_21, eX6_write_22, eX6_write_23, eX6_write_24, eX6_write_25, eX6_write_28, eX6_write_29, eX6_write_30, eX6_write_33, eX6_write_34, eX6_write_35, eX6_write_37, eX6_write_40, eX6_write_in, ew, P, zMkk P, zMr5 P, zMk5 P, zMr7 P, zMk7 P, kM_cut s0 s1, cM_is (P9 _ _)]
    exact hy'
  · have hn := hn c
    simp (disch := (first | (simp only [gK_sI, gK_sJ, gK_sR, gK_sIA, gK_sJA, gR_sI, gR_sJ, gR_sIA, Nat.reduceLeDiff, Nat.reduceEqDiff, Nat.reduceLT, Int.reduceLE, Int.reduceLT, Int.reduceEq, zWt_i, zWt_l, zWt_r, zWt_n, P, zMkk P, zMr5 P, zMk5 P, zMr7 P, zMk7 P] <;> omega) | omega | fail)) only [if_pos, if_neg, wI_id, zLc_lt, zLc_gt, zLc_eq, zLc_le, zLc_ge, Int.reduceEq, Int.reduceLE, Int.reduceLT, Int.reduceNeg, Int.reduceAdd, Int.reduceMul, Int.reduceSub, not_true_eq_false, not_false_eq_true, reduceIte, zPo_v, zPo_n, zPo_t, zKl_i, zKl_r, zKl_n, zKl_l, gK_sI, gK_sJ, gK_sR, gK_sIA, gK_sJA, gR_sI, gR_sJ, gJ_sI, gI_sJ, gI_sR, gJ_sR, gR_sIA, gJ_sIA, Nat.reduceLeDiff, Nat.reduceEqDiff, and_self, and_true, true_and, and_false, false_and, eX6_write_0, eX6_write_1, eX6_write_2, eX6_write_3, eX6_write_6, eX6_write_8, eX6_write_10, eX6_write_13, eX6_write_14, eX6_write_17, eX6_write_19, eX6_write_20, eX6_write_21, eX6_write_22, eX6_write_23, eX6_write_24, eX6_write_25, eX6_write_28, eX6_write_29, eX6_write_30, eX6_write_33, eX6_write_34, eX6_write_35, eX6_write_37, eX6_write_40, eX6_write_in, ew, cM_is P, c]
    exact hn
theorem cM_read {t p : Int} (P : zMk h) (hs : fWr h t p = 0 → (0 ≤ t ∧ t < 4) ∧ 0 ≤ p ∧ p < 60) (hy : fWr h t p = 0 → Q (zRv (zl (gJ h 118 (60 * t + p))) (sI h 113 2 0))) (hn : fWr h t p ≠ 0 → Q (zRv (zl (-1)) (sI h 113 2 (fWr h t p)))) : zCm mX6_read d [zr (some 113), zi t, zi p] h Q := by
  have hb : 0 ≤ fWr h t p ∧ fWr h t p ≤ 3 := by
    unfold fWr
    (repeat' split) <;> omega
  generalize hw : fWr h t p = w at hs hy hn hb
  have ew : ∀ d Q, zCm mX6_wrongPlace d [zr (some 113), zi t, zi p] h Q ↔ Q (zRv (zi w) h) := fun d Q => by rw [kM_wrongPlace P, hw]
  by_cases c : w = 0
  · obtain ⟨⟨t0, t1⟩, p0, p1⟩ := hs c
    have hy' := hy c
    clear hy hn
    subst c
    simp (disch := (first | (simp only [gK_sI, gK_sJ, gK_sR, gK_sIA, gK_sJA, gR_sI, gR_sJ, gR_sIA, Nat.reduceLeDiff, Nat.reduceEqDiff, Nat.reduceLT, Int.reduceLE, Int.reduceLT, Int.reduceEq, zWt_i, zWt_l, zWt_r, zWt_n, P, zMkk P, zMr7 P, zMk7 P] <;> omega) | omega | fail)) only [if_pos, if_neg, wI_id, zLc_lt, zLc_gt, zLc_eq, zLc_le, zLc_ge, Int.reduceEq, Int.reduceLE, Int.reduceLT, Int.reduceNeg, Int.reduceAdd, Int.reduceMul, Int.reduceSub, not_true_eq_false, not_false_eq_true, reduceIte, zPo_v, zPo_n, zPo_t, zKl_i, zKl_r, zKl_n, zKl_l, gK_sI, gK_sJ, gK_sR, gK_sIA, gK_sJA, gR_sI, gR_sJ, gJ_sI, gI_sJ, gI_sR, gJ_sR, gR_sIA, gJ_sIA, Nat.reduceLeDiff, Nat.reduceEqDiff, and_self, and_true, true_and, and_false, false_and, eX6_read_0, eX6_read_1, eX6_read_2, eX6_read_3, eX6_read_4, eX6_read_7, eX6_read_10, eX6_read_11, eX6_read_14, eX6_read_17, eX6_read_20, eX6_read_23, eX6_read_24, eX6_read_27, eX6_read_29, eX6_read_30, eX6_read_31, eX6_read_32, eX6_read_33, eX6_read_34, eX6_read_in, ew, P, zMkk P, zMr7 P, zMk7 P, gI_sI_eq, zU_eq]
    exact hy'
  · have hn := hn c
    simp (disch := (first | (simp only [gK_sI, gK_sJ, gK_sR, gK_sIA, gK_sJA, gR_sI, gR_sJ, gR_sIA, Nat.reduceLeDiff, Nat.reduceEqDiff, Nat.reduceLT, Int.reduceLE, Int.reduceLT, Int.reduceEq, zWt_i, zWt_l, zWt_r, zWt_n, P, zMkk P, zMr7 P, zMk7 P] <;> omega) | omega | fail)) only [if_pos, if_neg, wI_id, zLc_lt, zLc_gt, zLc_eq, zLc_le, zLc_ge, Int.reduceEq, Int.reduceLE, Int.reduceLT, Int.reduceNeg, Int.reduceAdd, Int.reduceMul, Int.reduceSub, not_true_eq_false, not_false_eq_true, reduceIte, zPo_v, zPo_n, zPo_t, zKl_i, zKl_r, zKl_n, zKl_l, gK_sI, gK_sJ, gK_sR, gK_sIA, gK_sJA, gR_sI, gR_sJ, gJ_sI, gI_sJ, gI_sR, gJ_sR, gR_sIA, gJ_sIA, Nat.reduceLeDiff, Nat.reduceEqDiff, and_self, and_true, true_and, and_false, false_and, eX6_read_0, eX6_read_1, eX6_read_2, eX6_read_3, eX6_read_4, eX6_read_7, eX6_read_10, eX6_read_11, eX6_read_14, eX6_read_17, eX6_read_20, eX6_read_23, eX6_read_24, eX6_read_27, eX6_read_29, eX6_read_30, eX6_read_31, eX6_read_32, eX6_read_33, eX6_read_34, eX6_read_in, ew, P, zMkk P, zMr7 P, zMk7 P, gI_sI_eq, zU_eq]
    exact hn
/-- the codes of a wrong place -/
theorem fWr_of {a nm : Int → Int} (R : zRl h a nm) {t p : Int} : (fWr h t p = 1 ∧ ¬ (0 ≤ t ∧ t < 4)) ∨ (fWr h t p = 2 ∧ (0 ≤ t ∧ t < 4) ∧ gR h (67 + t.toNat) 0 = none) ∨ ∃ r, (0 ≤ t ∧ t < 4) ∧ gR h (67 + t.toNat) 0 = some r ∧ zTo h (gI h 116 t) (gI h 117 t) (gJ h 118) r t ∧ ((fWr h t p = 3 ∧ ¬ (0 ≤ p ∧ p < gI h 117 t)) ∨ (fWr h t p = 0 ∧ 0 ≤ p ∧ p < gI h 117 t)) := by
  unfold fWr
  by_cases c : 0 ≤ t ∧ t < 4
  · rw [if_pos c]
    rcases zRtt R c.1 c.2 with ⟨q1, q2⟩ | ⟨r, q1, q2, q3⟩
    · rw [if_pos q1]
      exact Or.inr (Or.inl ⟨rfl, c, q2⟩)
    · rw [if_neg q2]
      refine Or.inr (Or.inr ⟨r, c, q1, q3, ?_⟩)
      by_cases c2 : 0 ≤ p ∧ p < gI h 117 t
      · rw [if_pos c2]
        exact Or.inr ⟨rfl, c2⟩
      · rw [if_neg c2]
        exact Or.inl ⟨rfl, c2⟩
  · rw [if_neg c]
    exact Or.inl ⟨rfl, c⟩
theorem zTv_put {s i k x : Int} {r : Nat} {h1 : zHp} : zTv (fPut h1 s r i x) s r k = if k = i then fCut s x else zTv h1 s r k := by
  by_cases c : s = 3
  · subst c
    show gJ (sJ h1 r i x) r k = if k = i then fCut 3 x else gJ h1 r k
    rw [gJ_sJ_eq]
    rfl
  · unfold fPut zTv
    simp only [if_neg c]
    rw [gI_sI_eq]
    rfl
theorem zTv_pne {s s' i k x : Int} {r r' : Nat} {h1 : zHp} (ne : r' ≠ r) : zTv (fPut h1 s r i x) s' r' k = zTv h1 s' r' k := by
  unfold fPut zTv
  by_cases c : s = 3
  · rw [if_pos c, gJ_sJ_ne ne]
    rfl
  · rw [if_neg c, gI_sI_ne ne]
    rfl
theorem jO_write {t p x : Int} : zOp zi d mX0_write mX6_write [zi t, zi p, zl x] := fun Q h a nm R k => by
  have K := zRxk R
  have e2 : ∀ x, zXk (sI h 65 7 x) := fun _ => K
  have k6 := zXk6 K
  have PM := zRmk R
  have K3 : ∀ w, zXk (sI (sI h 65 7 0) 73 6 w) := fun _ => K
  rcases fWr_of (p := p) R with ⟨f1, hc⟩ | ⟨f1, hc, hr⟩ | ⟨r, hc, hr, ⟨⟨m0, m1⟩, ⟨s0, s1⟩, r0, r1, r2, r3⟩, ⟨f1, hp⟩ | ⟨f1, hp⟩⟩
  · have h9 := zJ_ref (x := 0) (w := 1) (y := 1) R (MM := mX6_write) (as := [zi t, zi p, zl x]) (fun Q2 q => cM_write (h := sI (sI h 73 6 1) 65 7 1) PM (fun f9 => absurd (f1.symm.trans f9) (by decide)) (fun f9 => absurd (f1.symm.trans f9) (by decide)) (fun _ => by
      have f2 : fWr (sI (sI h 73 6 1) 65 7 1) t p = 1 := f1
      rw [f2]
      exact q)) k
    rw [← zX_ref] at h9
    simp (disch := (first | (simp only [gK_sI, gK_sJ, gK_sR, gK_sIA, gK_sJA, gR_sI, gR_sJ, gR_sIA, Nat.reduceLeDiff, Nat.reduceEqDiff, Nat.reduceLT, Int.reduceLE, Int.reduceLT, Int.reduceEq, zWt_i, zWt_l, zWt_r, zWt_n, K, zXkk K, zXh0 K, e2, k6] <;> omega) | omega | fail)) only [if_pos, if_neg, wI_id, zLc_lt, zLc_gt, zLc_eq, zLc_le, zLc_ge, Int.reduceEq, Int.reduceLE, Int.reduceLT, Int.reduceNeg, Int.reduceAdd, Int.reduceMul, Int.reduceSub, not_true_eq_false, not_false_eq_true, reduceIte, zPo_v, zPo_n, zPo_t, zKl_i, zKl_r, zKl_n, zKl_l, gK_sI, gK_sJ, gK_sR, gK_sIA, gK_sJA, gR_sI, gR_sJ, gJ_sI, gI_sJ, gI_sR, gJ_sR, gR_sIA, gJ_sIA, Nat.reduceLeDiff, Nat.reduceEqDiff, and_self, and_true, true_and, and_false, false_and, eX0_write_0, eX0_write_1, eX0_write_2, eX0_write_5, eX0_write_6, eX0_write_7, eX0_write_10, eX0_write_11, eX0_write_12, eX0_write_15, eX0_write_16, eX0_write_17, eX0_write_19, eX0_write_20, eX0_write_21, eX0_write_24, eX0_write_25, eX0_write_26, eX0_write_28, eX0_write_29, eX0_write_31, eX0_write_34, tX0_write_7_3, tX0_write_7_31, tX0_write_12_3, tX0_write_12_31, eX0_write_in, kX0_on_bad (e2 0) hc, kX0_no (K3 1), gI_sI_eq, zU_eq]
    exact h9
  · have h9 := zJ_ref (x := 0) (w := 2) (y := 2) R (MM := mX6_write) (as := [zi t, zi p, zl x]) (fun Q2 q => cM_write (h := sI (sI h 73 6 2) 65 7 2) PM (fun f9 => absurd (f1.symm.trans f9) (by decide)) (fun f9 => absurd (f1.symm.trans f9) (by decide)) (fun _ => by
      have f2 : fWr (sI (sI h 73 6 2) 65 7 2) t p = 2 := f1
      rw [f2]
      exact q)) k
    rw [← zX_ref] at h9
    simp (disch := (first | (simp only [gK_sI, gK_sJ, gK_sR, gK_sIA, gK_sJA, gR_sI, gR_sJ, gR_sIA, Nat.reduceLeDiff, Nat.reduceEqDiff, Nat.reduceLT, Int.reduceLE, Int.reduceLT, Int.reduceEq, zWt_i, zWt_l, zWt_r, zWt_n, K, zXkk K, zXh0 K, e2, k6] <;> omega) | omega | fail)) only [if_pos, if_neg, wI_id, zLc_lt, zLc_gt, zLc_eq, zLc_le, zLc_ge, Int.reduceEq, Int.reduceLE, Int.reduceLT, Int.reduceNeg, Int.reduceAdd, Int.reduceMul, Int.reduceSub, not_true_eq_false, not_false_eq_true, reduceIte, zPo_v, zPo_n, zPo_t, zKl_i, zKl_r, zKl_n, zKl_l, gK_sI, gK_sJ, gK_sR, gK_sIA, gK_sJA, gR_sI, gR_sJ, gJ_sI, gI_sJ, gI_sR, gJ_sR, gR_sIA, gJ_sIA, Nat.reduceLeDiff, Nat.reduceEqDiff, and_self, and_true, true_and, and_false, false_and, eX0_write_0, eX0_write_1, eX0_write_2, eX0_write_5, eX0_write_6, eX0_write_7, eX0_write_10, eX0_write_11, eX0_write_12, eX0_write_15, eX0_write_16, eX0_write_17, eX0_write_19, eX0_write_20, eX0_write_21, eX0_write_24, eX0_write_25, eX0_write_26, eX0_write_28, eX0_write_29, eX0_write_31, eX0_write_34, tX0_write_7_3, tX0_write_7_31, tX0_write_12_3, tX0_write_12_31, eX0_write_in, kX0_on_none (e2 0) hc.1 hc.2 hr, kX0_no (K3 2), gI_sI_eq, zU_eq]
    exact h9
  · simp (disch := (first | (simp only [gK_sI, gK_sJ, gK_sR, gK_sIA, gK_sJA, gR_sI, gR_sJ, gR_sIA, Nat.reduceLeDiff, Nat.reduceEqDiff, Nat.reduceLT, Int.reduceLE, Int.reduceLT, Int.reduceEq, zWt_i, zWt_l, zWt_r, zWt_n, K, zXkk K, zXh0 K, e2] <;> omega) | omega | fail)) only [if_pos, if_neg, wI_id, zLc_lt, zLc_gt, zLc_eq, zLc_le, zLc_ge, Int.reduceEq, Int.reduceLE, Int.reduceLT, Int.reduceNeg, Int.reduceAdd, Int.reduceMul, Int.reduceSub, not_true_eq_false, not_false_eq_true, reduceIte, zPo_v, zPo_n, zPo_t, zKl_i, zKl_r, zKl_n, zKl_l, gK_sI, gK_sJ, gK_sR, gK_sIA, gK_sJA, gR_sI, gR_sJ, gJ_sI, gI_sJ, gI_sR, gJ_sR, gR_sIA, gJ_sIA, Nat.reduceLeDiff, Nat.reduceEqDiff, and_self, and_true, true_and, and_false, false_and, eX0_write_0, eX0_write_1, eX0_write_2, eX0_write_5, eX0_write_6, eX0_write_7, eX0_write_10, eX0_write_11, eX0_write_12, eX0_write_15, eX0_write_16, eX0_write_17, eX0_write_19, eX0_write_20, eX0_write_21, eX0_write_24, eX0_write_25, eX0_write_26, eX0_write_28, eX0_write_29, eX0_write_31, eX0_write_34, tX0_write_7_3, tX0_write_7_31, tX0_write_12_3, tX0_write_12_31, eX0_write_in, kX0_on_some (e2 0) hc.1 hc.2 hr]
    refine kX0_put (s := gI h 116 t) (m := gI h 117 t) (by omega) s0 s1 m0 r2 (fun q => absurd q hp) (fun _ => ?_)
    have KT : zXk (gTick (sI h 65 7 0) 3 400) := K
    simp (disch := (first | (simp only [gK_sI, gK_sJ, gK_sR, gK_sIA, gK_sJA, gR_sI, gR_sJ, gR_sIA, Nat.reduceLeDiff, Nat.reduceEqDiff, Nat.reduceLT, Int.reduceLE, Int.reduceLT, Int.reduceEq, zWt_i, zWt_l, zWt_r, zWt_n, KT, zXkk KT, zXh0 KT] <;> omega) | omega | fail)) only [if_pos, if_neg, wI_id, zLc_lt, zLc_gt, zLc_eq, zLc_le, zLc_ge, Int.reduceEq, Int.reduceLE, Int.reduceLT, Int.reduceNeg, Int.reduceAdd, Int.reduceMul, Int.reduceSub, not_true_eq_false, not_false_eq_true, reduceIte, zPo_v, zPo_n, zPo_t, zKl_i, zKl_r, zKl_n, zKl_l, gK_sI, gK_sJ, gK_sR, gK_sIA, gK_sJA, gR_sI, gR_sJ, gJ_sI, gI_sJ, gI_sR, gJ_sR, gR_sIA, gJ_sIA, Nat.reduceLeDiff, Nat.reduceEqDiff, and_self, and_true, true_and, and_false, false_and, eX0_write_0, eX0_write_1, eX0_write_2, eX0_write_5, eX0_write_6, eX0_write_7, eX0_write_10, eX0_write_11, eX0_write_12, eX0_write_15, eX0_write_16, eX0_write_17, eX0_write_19, eX0_write_20, eX0_write_21, eX0_write_24, eX0_write_25, eX0_write_26, eX0_write_28, eX0_write_29, eX0_write_31, eX0_write_34, tX0_write_7_3, tX0_write_7_31, tX0_write_12_3, tX0_write_12_31, eX0_write_in, KT, zXkk KT, zXh0 KT]
    have e9 : sI (gTick (sI h 65 7 0) 3 400) 65 7 3 = gTick (sI h 65 7 3) 3 400 := by
      have := sI2 (h := h) (b := 65) (j := 7) (x := 0) (y := 3)
      show gTick (sI (sI h 65 7 0) 65 7 3) 3 400 = _
      rw [this]
    rw [e9]
    refine k 0 _ ⟨rfl, rfl, rfl⟩ (fun Q2 h2 => cM_write (h := gTick (sI h 65 7 3) 3 400) PM (fun f9 => absurd (f1.symm.trans f9) (by decide)) (fun f9 => absurd (f1.symm.trans f9) (by decide)) (fun _ => ?_))
    have f2 : fWr (gTick (sI h 65 7 3) 3 400) t p = 3 := f1
    rw [f2]
    exact h2 _ a nm (zR_stT R) zSc_stT zBu_stT
  · simp (disch := (first | (simp only [gK_sI, gK_sJ, gK_sR, gK_sIA, gK_sJA, gR_sI, gR_sJ, gR_sIA, Nat.reduceLeDiff, Nat.reduceEqDiff, Nat.reduceLT, Int.reduceLE, Int.reduceLT, Int.reduceEq, zWt_i, zWt_l, zWt_r, zWt_n, K, zXkk K, zXh0 K, e2] <;> omega) | omega | fail)) only [if_pos, if_neg, wI_id, zLc_lt, zLc_gt, zLc_eq, zLc_le, zLc_ge, Int.reduceEq, Int.reduceLE, Int.reduceLT, Int.reduceNeg, Int.reduceAdd, Int.reduceMul, Int.reduceSub, not_true_eq_false, not_false_eq_true, reduceIte, zPo_v, zPo_n, zPo_t, zKl_i, zKl_r, zKl_n, zKl_l, gK_sI, gK_sJ, gK_sR, gK_sIA, gK_sJA, gR_sI, gR_sJ, gJ_sI, gI_sJ, gI_sR, gJ_sR, gR_sIA, gJ_sIA, Nat.reduceLeDiff, Nat.reduceEqDiff, and_self, and_true, true_and, and_false, false_and, eX0_write_0, eX0_write_1, eX0_write_2, eX0_write_5, eX0_write_6, eX0_write_7, eX0_write_10, eX0_write_11, eX0_write_12, eX0_write_15, eX0_write_16, eX0_write_17, eX0_write_19, eX0_write_20, eX0_write_21, eX0_write_24, eX0_write_25, eX0_write_26, eX0_write_28, eX0_write_29, eX0_write_31, eX0_write_34, tX0_write_7_3, tX0_write_7_31, tX0_write_12_3, tX0_write_12_31, eX0_write_in, kX0_on_some (e2 0) hc.1 hc.2 hr]
    refine kX0_put (s := gI h 116 t) (m := gI h 117 t) (by omega) s0 s1 m0 r2 (fun _ => ?_) (fun q => absurd hp q)
    simp (disch := (first | (simp only [gK_sI, gK_sJ, gK_sR, gK_sIA, gK_sJA, gR_sI, gR_sJ, gR_sIA, Nat.reduceLeDiff, Nat.reduceEqDiff, Nat.reduceLT, Int.reduceLE, Int.reduceLT, Int.reduceEq, zWt_i, zWt_l, zWt_r, zWt_n] <;> omega) | omega | fail)) only [if_pos, if_neg, wI_id, zLc_lt, zLc_gt, zLc_eq, zLc_le, zLc_ge, Int.reduceEq, Int.reduceLE, Int.reduceLT, Int.reduceNeg, Int.reduceAdd, Int.reduceMul, Int.reduceSub, not_true_eq_false, not_false_eq_true, reduceIte, zPo_v, zPo_n, zPo_t, zKl_i, zKl_r, zKl_n, zKl_l, gK_sI, gK_sJ, gK_sR, gK_sIA, gK_sJA, gR_sI, gR_sJ, gJ_sI, gI_sJ, gI_sR, gJ_sR, gR_sIA, gJ_sIA, Nat.reduceLeDiff, Nat.reduceEqDiff, and_self, and_true, true_and, and_false, false_and, eX0_write_0, eX0_write_1, eX0_write_2, eX0_write_5, eX0_write_6, eX0_write_7, eX0_write_10, eX0_write_11, eX0_write_12, eX0_write_15, eX0_write_16, eX0_write_17, eX0_write_19, eX0_write_20, eX0_write_21, eX0_write_24, eX0_write_25, eX0_write_26, eX0_write_28, eX0_write_29, eX0_write_31, eX0_write_34, tX0_write_7_3, tX0_write_7_31, tX0_write_12_3, tX0_write_12_31, eX0_write_in]
    have pK : ∀ h1 : zHp, gK (fPut h1 (gI h 116 t) r p x) = gK h1 := fun h1 => by
      unfold fPut
      split <;> rfl
    have pR : ∀ h1 : zHp, gR (fPut h1 (gI h 116 t) r p x) = gR h1 := fun h1 => by
      unfold fPut
      split <;> rfl
    have p1 : ∀ h1 : zHp, (fPut h1 (gI h 116 t) r p x).1 = h1.1 := fun h1 => by
      unfold fPut
      split <;> rfl
    have pI : ∀ (h1 : zHp) b, b ≠ r → gI (fPut h1 (gI h 116 t) r p x) b = gI h1 b := fun h1 b hb => by
      unfold fPut
      split
      · rfl
      · exact gI_sI_ne hb
    have pJ : ∀ (h1 : zHp) b, b ≠ r → gJ (fPut h1 (gI h 116 t) r p x) b = gJ h1 b := fun h1 b hb => by
      unfold fPut
      split
      · exact gJ_sJ_ne hb
      · rfl
    have r1000 : ∀ b, b < 129 → b ≠ r := fun b hb => by omega
    generalize hH : fPut (sI h 65 7 0) (gI h 116 t) r p x = H1
    have HK : gK H1 = gK h := by rw [← hH, pK]; rfl
    have HR : gR H1 = gR h := by rw [← hH, pR]; rfl
    have H1' : H1.1 = h.1 := by rw [← hH, p1]; rfl
    have HI : ∀ b, b ≠ r → b ≠ 65 → gI H1 b = gI h b := fun b b1 b2 => by rw [← hH, pI _ b b1, gI_sI_ne b2]
    have HJ : ∀ b, b ≠ r → gJ H1 b = gJ h b := fun b b1 => by rw [← hH, pJ _ b b1]; rfl
    have H65 : ∀ j, gI H1 65 j = if j = 7 then 0 else gI h 65 j := fun j => by
      rw [← hH, pI _ 65 (r1000 65 (by decide)), gI_sI_eq]
      rfl
    have PM1 : zMk H1 := by
      unfold zMk at PM ⊢
      rw [HK, HR]
      exact PM
    have f2 : fWr H1 t p = 0 := by
      unfold fWr
      rw [HI 117 (r1000 _ (by decide)) (by decide)]
      exact f1
    refine k 1 H1 ⟨HI 0 (by omega) (by decide), by rw [HK], by rw [HK]⟩ (fun Q2 h2 => cM_write PM1 (fun _ => ⟨by rw [HI 116 (r1000 _ (by decide)) (by decide)]; exact ⟨s0, s1⟩, hc, hp.1, by omega⟩) (fun _ => ?_) (fun q => absurd f2 q))
    rw [HI 116 (r1000 _ (by decide)) (by decide)]
    have rowr : zRow h r := ⟨t, hc.1, hc.2, hr⟩
    have e113 : ∀ j, j ≠ 2 → gI (sI (sJ H1 118 (60 * t + p) (fCut (gI h 116 t) x)) 113 2 0) 113 j = gI h 113 j := fun j hj => by
      rw [gI_sI_eq, zU_ne hj]
      exact congrFun (HI 113 (r1000 _ (by decide)) (by decide)) j
    have eI : ∀ b, b ≠ 113 → gI (sI (sJ H1 118 (60 * t + p) (fCut (gI h 116 t) x)) 113 2 0) b = gI H1 b := fun b hb => gI_sI_ne hb
    refine h2 _ a nm (zR_rows R (by show H1.1.1 = h.1.1; rw [H1']) HK HR (fun b b1 b2 b3 b4 => ?_) (fun b b1 b2 => ?_) (fun j hj => ?_) e113 ?_ ?_ (fun u u0 u1 r' hr' kk k0 k1 => ?_)) ⟨?_, ?_⟩ (zBu_0 H1')
    · rw [eI b b3, HI b (fun e => b4 (e ▸ rowr)) b1]
    · show gJ (sJ H1 118 _ _) b = _
      rw [gJ_sJ_ne b1, HJ b (fun e => b2 (e ▸ rowr))]
    · rw [eI 65 (by decide), H65, if_neg hj]
    · rw [eI 71 (by decide), HI 71 (r1000 _ (by decide)) (by decide)]
    · rw [eI 65 (by decide), H65, if_pos rfl, gI_sI_eq, zU_eq]
    · have ezt : ∀ s' q, zTv (sI (sJ H1 118 (60 * t + p) (fCut (gI h 116 t) x)) 113 2 0) s' r' q = zTv H1 s' r' q := fun s' q => by
        have h129 : 129 ≤ r' := (zRow_f R ⟨u, u0, u1, hr'⟩).1
        unfold zTv
        rw [eI r' (by omega)]
        show (if s' = 3 then gJ (sJ H1 118 (60 * t + p) (fCut (gI h 116 t) x)) r' q else gI H1 r' q) = _
        rw [gJ_sJ_ne (show r' ≠ 118 by omega)]
      have eJ : gJ (sI (sJ H1 118 (60 * t + p) (fCut (gI h 116 t) x)) 113 2 0) 118 (60 * u + kk) = zU (gJ H1 118) (60 * t + p) (fCut (gI h 116 t) x) (60 * u + kk) := by
        show gJ (sJ H1 118 (60 * t + p) (fCut (gI h 116 t) x)) 118 (60 * u + kk) = _
        rw [gJ_sJ_eq]
      rw [ezt, eJ, HJ 118 (r1000 _ (by decide))]
      by_cases cu : u = t
      · subst cu
        have er : r' = r := Option.some.inj (hr'.symm.trans hr)
        subst er
        rw [← hH, zTv_put]
        by_cases ck : kk = p
        · rw [if_pos ck, ck, zU_eq]
        · rw [if_neg ck, zU_ne (by omega)]
          have e8 := r3 kk k0 k1
          unfold zTv at e8 ⊢
          rw [gI_sI_ne (by omega)]
          exact e8
      · have ne : r' ≠ r := fun e => (zRtr R).2 u t u0 u1 hc.1 hc.2 cu r' hr' (e ▸ hr)
        have hmu : gI h 117 u ≤ 60 := by
          rcases (zRtr R).1 u u0 u1 with ⟨q, -⟩ | ⟨_, _, q, -⟩
          · omega
          · exact q.2
        rw [← hH, zTv_pne ne, zU_ne (by omega)]
        rcases (zRtr R).1 u u0 u1 with ⟨-, q⟩ | ⟨r9, q1, q2⟩
        · rw [q] at hr'
          cases hr'
        · have er : r' = r9 := Option.some.inj (hr'.symm.trans q1)
          subst er
          have e8 := q2.2.2.2.2.2 kk k0 k1
          have h129 := q2.2.2.1
          unfold zTv at e8 ⊢
          rw [gI_sI_ne (by omega)]
          exact e8
    · rw [eI 0 (by decide)]
      exact HI 0 (by omega) (by decide)
    · exact ⟨congrFun HK 0, congrFun HK 113⟩
theorem jO_read {t p : Int} : zOp zl d mX0_read mX6_read [zi t, zi p] := fun Q h a nm R k => by
  have K := zRxk R
  have e2 : ∀ x, zXk (sI h 65 7 x) := fun _ => K
  have k6 := zXk6 K
  have PM := zRmk R
  have K3 : ∀ w, zXk (sI (sI h 65 7 0) 73 6 w) := fun _ => K
  have bad : ∀ w : Int, w ≠ 0 → fWr h t p = w → Q (zRv (zl (-1)) (sI (sI h 73 6 w) 65 7 w)) := fun w w0 f1 => by
    refine k (-1) _ ⟨rfl, rfl, rfl⟩ (fun Q2 h2 => cM_read (h := sI (sI h 73 6 w) 65 7 w) PM (fun f9 => absurd (f1.symm.trans f9) w0) (fun f9 => absurd (f1.symm.trans f9) w0) (fun _ => ?_))
    have f2 : fWr (sI (sI h 73 6 w) 65 7 w) t p = w := f1
    rw [f2]
    exact h2 _ a nm (zR_st R) ⟨rfl, rfl, rfl⟩ (zBu_0 rfl)
  rcases fWr_of (p := p) R with ⟨f1, hc⟩ | ⟨f1, hc, hr⟩ | ⟨r, hc, hr, ⟨⟨m0, m1⟩, ⟨s0, s1⟩, r0, r1, r2, r3⟩, ⟨f1, hp⟩ | ⟨f1, hp⟩⟩
  · have h9 := bad 1 (by decide) f1
    rw [← zX_ref] at h9
    simp (disch := (first | (simp only [gK_sI, gK_sJ, gK_sR, gK_sIA, gK_sJA, gR_sI, gR_sJ, gR_sIA, Nat.reduceLeDiff, Nat.reduceEqDiff, Nat.reduceLT, Int.reduceLE, Int.reduceLT, Int.reduceEq, zWt_i, zWt_l, zWt_r, zWt_n, K, zXkk K, zXh0 K, e2, k6] <;> omega) | omega | fail)) only [if_pos, if_neg, wI_id, zLc_lt, zLc_gt, zLc_eq, zLc_le, zLc_ge, Int.reduceEq, Int.reduceLE, Int.reduceLT, Int.reduceNeg, Int.reduceAdd, Int.reduceMul, Int.reduceSub, not_true_eq_false, not_false_eq_true, reduceIte, zPo_v, zPo_n, zPo_t, zKl_i, zKl_r, zKl_n, zKl_l, gK_sI, gK_sJ, gK_sR, gK_sIA, gK_sJA, gR_sI, gR_sJ, gJ_sI, gI_sJ, gI_sR, gJ_sR, gR_sIA, gJ_sIA, Nat.reduceLeDiff, Nat.reduceEqDiff, and_self, and_true, true_and, and_false, false_and, eX0_read_0, eX0_read_1, eX0_read_2, eX0_read_5, eX0_read_6, eX0_read_7, eX0_read_10, eX0_read_11, eX0_read_14, eX0_read_15, eX0_read_16, eX0_read_17, eX0_read_18, eX0_read_21, eX0_read_24, eX0_read_25, eX0_read_26, eX0_read_27, eX0_read_28, eX0_read_31, eX0_read_32, tX0_read_7_3, tX0_read_7_31, tX0_read_11_3, tX0_read_11_31, eX0_read_in, kX0_on_bad (e2 0) hc, kX0_none (K3 1), gI_sI_eq, zU_eq]
    exact h9
  · have h9 := bad 2 (by decide) f1
    rw [← zX_ref] at h9
    simp (disch := (first | (simp only [gK_sI, gK_sJ, gK_sR, gK_sIA, gK_sJA, gR_sI, gR_sJ, gR_sIA, Nat.reduceLeDiff, Nat.reduceEqDiff, Nat.reduceLT, Int.reduceLE, Int.reduceLT, Int.reduceEq, zWt_i, zWt_l, zWt_r, zWt_n, K, zXkk K, zXh0 K, e2, k6] <;> omega) | omega | fail)) only [if_pos, if_neg, wI_id, zLc_lt, zLc_gt, zLc_eq, zLc_le, zLc_ge, Int.reduceEq, Int.reduceLE, Int.reduceLT, Int.reduceNeg, Int.reduceAdd, Int.reduceMul, Int.reduceSub, not_true_eq_false, not_false_eq_true, reduceIte, zPo_v, zPo_n, zPo_t, zKl_i, zKl_r, zKl_n, zKl_l, gK_sI, gK_sJ, gK_sR, gK_sIA, gK_sJA, gR_sI, gR_sJ, gJ_sI, gI_sJ, gI_sR, gJ_sR, gR_sIA, gJ_sIA, Nat.reduceLeDiff, Nat.reduceEqDiff, and_self, and_true, true_and, and_false, false_and, eX0_read_0, eX0_read_1, eX0_read_2, eX0_read_5, eX0_read_6, eX0_read_7, eX0_read_10, eX0_read_11, eX0_read_14, eX0_read_15, eX0_read_16, eX0_read_17, eX0_read_18, eX0_read_21, eX0_read_24, eX0_read_25, eX0_read_26, eX0_read_27, eX0_read_28, eX0_read_31, eX0_read_32, tX0_read_7_3, tX0_read_7_31, tX0_read_11_3, tX0_read_11_31, eX0_read_in, kX0_on_none (e2 0) hc.1 hc.2 hr, kX0_none (K3 2), gI_sI_eq, zU_eq]
    exact h9
  · simp (disch := (first | (simp only [gK_sI, gK_sJ, gK_sR, gK_sIA, gK_sJA, gR_sI, gR_sJ, gR_sIA, Nat.reduceLeDiff, Nat.reduceEqDiff, Nat.reduceLT, Int.reduceLE, Int.reduceLT, Int.reduceEq, zWt_i, zWt_l, zWt_r, zWt_n, K, zXkk K, zXh0 K, e2] <;> omega) | omega | fail)) only [if_pos, if_neg, wI_id, zLc_lt, zLc_gt, zLc_eq, zLc_le, zLc_ge, Int.reduceEq, Int.reduceLE, Int.reduceLT, Int.reduceNeg, Int.reduceAdd, Int.reduceMul, Int.reduceSub, not_true_eq_false, not_false_eq_true, reduceIte, zPo_v, zPo_n, zPo_t, zKl_i, zKl_r, zKl_n, zKl_l, gK_sI, gK_sJ, gK_sR, gK_sIA, gK_sJA, gR_sI, gR_sJ, gJ_sI, gI_sJ, gI_sR, gJ_sR, gR_sIA, gJ_sIA, Nat.reduceLeDiff, Nat.reduceEqDiff, and_self, and_true, true_and, and_false, false_and, eX0_read_0, eX0_read_1, eX0_read_2, eX0_read_5, eX0_read_6, eX0_read_7, eX0_read_10, eX0_read_11, eX0_read_14, eX0_read_15, eX0_read_16, eX0_read_17, eX0_read_18, eX0_read_21, eX0_read_24, eX0_read_25, eX0_read_26, eX0_read_27, eX0_read_28, eX0_read_31, eX0_read_32, tX0_read_7_3, tX0_read_7_31, tX0_read_11_3, tX0_read_11_31, eX0_read_in, kX0_on_some (e2 0) hc.1 hc.2 hr]
    refine kX0_number (s := gI h 116 t) (m := gI h 117 t) (by omega) s0 s1 m0 r2 (fun q => absurd q hp) (fun _ => ?_)
    have KT : zXk (gTick (sI h 65 7 0) 3 400) := K
    simp (disch := (first | (simp only [gK_sI, gK_sJ, gK_sR, gK_sIA, gK_sJA, gR_sI, gR_sJ, gR_sIA, Nat.reduceLeDiff, Nat.reduceEqDiff, Nat.reduceLT, Int.reduceLE, Int.reduceLT, Int.reduceEq, zWt_i, zWt_l, zWt_r, zWt_n, KT, zXkk KT, zXh0 KT] <;> omega) | omega | fail)) only [if_pos, if_neg, wI_id, zLc_lt, zLc_gt, zLc_eq, zLc_le, zLc_ge, Int.reduceEq, Int.reduceLE, Int.reduceLT, Int.reduceNeg, Int.reduceAdd, Int.reduceMul, Int.reduceSub, not_true_eq_false, not_false_eq_true, reduceIte, zPo_v, zPo_n, zPo_t, zKl_i, zKl_r, zKl_n, zKl_l, gK_sI, gK_sJ, gK_sR, gK_sIA, gK_sJA, gR_sI, gR_sJ, gJ_sI, gI_sJ, gI_sR, gJ_sR, gR_sIA, gJ_sIA, Nat.reduceLeDiff, Nat.reduceEqDiff, and_self, and_true, true_and, and_false, false_and, eX0_read_0, eX0_read_1, eX0_read_2, eX0_read_5, eX0_read_6, eX0_read_7, eX0_read_10, eX0_read_11, eX0_read_14, eX0_read_15, eX0_read_16, eX0_read_17, eX0_read_18, eX0_read_21, eX0_read_24, eX0_read_25, eX0_read_26, eX0_read_27, eX0_read_28, eX0_read_31, eX0_read_32, tX0_read_7_3, tX0_read_7_31, tX0_read_11_3, tX0_read_11_31, eX0_read_in, KT, zXkk KT, zXh0 KT]
    have e9 : sI (gTick (sI h 65 7 0) 3 400) 65 7 3 = gTick (sI h 65 7 3) 3 400 := by
      have := sI2 (h := h) (b := 65) (j := 7) (x := 0) (y := 3)
      show gTick (sI (sI h 65 7 0) 65 7 3) 3 400 = _
      rw [this]
    rw [e9]
    refine k (-1) _ ⟨rfl, rfl, rfl⟩ (fun Q2 h2 => cM_read (h := gTick (sI h 65 7 3) 3 400) PM (fun f9 => absurd (f1.symm.trans f9) (by decide)) (fun f9 => absurd (f1.symm.trans f9) (by decide)) (fun _ => ?_))
    have f2 : fWr (gTick (sI h 65 7 3) 3 400) t p = 3 := f1
    rw [f2]
    exact h2 _ a nm (zR_stT R) zSc_stT zBu_stT
  · simp (disch := (first | (simp only [gK_sI, gK_sJ, gK_sR, gK_sIA, gK_sJA, gR_sI, gR_sJ, gR_sIA, Nat.reduceLeDiff, Nat.reduceEqDiff, Nat.reduceLT, Int.reduceLE, Int.reduceLT, Int.reduceEq, zWt_i, zWt_l, zWt_r, zWt_n, K, zXkk K, zXh0 K, e2] <;> omega) | omega | fail)) only [if_pos, if_neg, wI_id, zLc_lt, zLc_gt, zLc_eq, zLc_le, zLc_ge, Int.reduceEq, Int.reduceLE, Int.reduceLT, Int.reduceNeg, Int.reduceAdd, Int.reduceMul, Int.reduceSub, not_true_eq_false, not_false_eq_true, reduceIte, zPo_v, zPo_n, zPo_t, zKl_i, zKl_r, zKl_n, zKl_l, gK_sI, gK_sJ, gK_sR, gK_sIA, gK_sJA, gR_sI, gR_sJ, gJ_sI, gI_sJ, gI_sR, gJ_sR, gR_sIA, gJ_sIA, Nat.reduceLeDiff, Nat.reduceEqDiff, and_self, and_true, true_and, and_false, false_and, eX0_read_0, eX0_read_1, eX0_read_2, eX0_read_5, eX0_read_6, eX0_read_7, eX0_read_10, eX0_read_11, eX0_read_14, eX0_read_15, eX0_read_16, eX0_read_17, eX0_read_18, eX0_read_21, eX0_read_24, eX0_read_25, eX0_read_26, eX0_read_27, eX0_read_28, eX0_read_31, eX0_read_32, tX0_read_7_3, tX0_read_7_31, tX0_read_11_3, tX0_read_11_31, eX0_read_in, kX0_on_some (e2 0) hc.1 hc.2 hr]
    refine kX0_number (s := gI h 116 t) (m := gI h 117 t) (by omega) s0 s1 m0 r2 (fun _ => ?_) (fun q => absurd hp q)
    have ev : zTv (sI h 65 7 0) (gI h 116 t) r p = gJ h 118 (60 * t + p) := by
      rw [← r3 p hp.1 hp.2]
      unfold zTv
      rw [gI_sI_ne (by omega)]
      rfl
    rw [ev]
    simp (disch := (first | (simp only [gK_sI, gK_sJ, gK_sR, gK_sIA, gK_sJA, gR_sI, gR_sJ, gR_sIA, Nat.reduceLeDiff, Nat.reduceEqDiff, Nat.reduceLT, Int.reduceLE, Int.reduceLT, Int.reduceEq, zWt_i, zWt_l, zWt_r, zWt_n] <;> omega) | omega | fail)) only [if_pos, if_neg, wI_id, zLc_lt, zLc_gt, zLc_eq, zLc_le, zLc_ge, Int.reduceEq, Int.reduceLE, Int.reduceLT, Int.reduceNeg, Int.reduceAdd, Int.reduceMul, Int.reduceSub, not_true_eq_false, not_false_eq_true, reduceIte, zPo_v, zPo_n, zPo_t, zKl_i, zKl_r, zKl_n, zKl_l, gK_sI, gK_sJ, gK_sR, gK_sIA, gK_sJA, gR_sI, gR_sJ, gJ_sI, gI_sJ, gI_sR, gJ_sR, gR_sIA, gJ_sIA, Nat.reduceLeDiff, Nat.reduceEqDiff, and_self, and_true, true_and, and_false, false_and, eX0_read_0, eX0_read_1, eX0_read_2, eX0_read_5, eX0_read_6, eX0_read_7, eX0_read_10, eX0_read_11, eX0_read_14, eX0_read_15, eX0_read_16, eX0_read_17, eX0_read_18, eX0_read_21, eX0_read_24, eX0_read_25, eX0_read_26, eX0_read_27, eX0_read_28, eX0_read_31, eX0_read_32, tX0_read_7_3, tX0_read_7_31, tX0_read_11_3, tX0_read_11_31, eX0_read_in]
    refine k _ _ ⟨rfl, rfl, rfl⟩ (fun Q2 h2 => cM_read (h := sI h 65 7 0) PM (fun _ => ⟨hc, hp.1, by omega⟩) (fun _ => ?_) (fun q => absurd f1 q))
    exact h2 _ a nm (zR_st0 R) ⟨rfl, rfl, rfl⟩ (zBu_0 rfl)
end J4
