/-! ===== BOTH SIDES JOINED, 7: mark, undo ===== -/
set_option maxRecDepth 100000
/-- a heap that has grown out of h, but for the row of marks and a status -/
def zGw (h g : zHp) (mm : Int) : Prop := (gN h ≤ gN g ∧ gN g ≤ gN h + 20) ∧ (∀ c, c < gN h → gK g c = gK h c) ∧ (∀ c, gN g ≤ c → gK g c = (1000, 0)) ∧ (∀ c, c < gN h → c ≠ 65 → gI g c = gI h c) ∧ (∀ j, j ≠ 7 → gI g 65 j = gI h 65 j) ∧ gI g 65 7 = 0 ∧ (∀ c, c < gN h → gJ g c = gJ h c) ∧ (∀ c, c < gN h → c ≠ 91 → gR g c = gR h c) ∧ (∀ j, j ≠ mm → gR g 91 j = gR h 91 j) ∧ gC g ≤ gC h + 20 ∧ gS g ≤ gS h + 400
section J7
variable {d : Nat}
theorem zX_row {h : zHp} {a nm : Int → Int} (R : zRl h a nm) {c : Nat} (q : zRow h c) : 129 ≤ c ∧ c < gN h := ⟨(zRow_f R q).1, (zRow_f R q).2.1⟩
theorem jO_mark : zOp zi d mX0_mark mX6_mark [] := fun Q h a nm R k => by
  have K := zRxk R
  have e2 : ∀ x, zXk (sI h 65 7 x) := fun _ => K
  have PM := zRmk R
  have hmm := zRmm R
  have g0 := (zRfr R).1
  obtain ⟨⟨m0, m3⟩, ms2, ms3, ms4, ms5⟩ := zRms R
  generalize hm : gI h 113 41 = mm at *
  by_cases c3 : mm = 3
  · have rd : gI (sI h 65 7 4) 65 7 = 4 := by rw [gI_sI_eq, zU_eq]
    have h9 : Q (zRv (zi (-1)) (sI h 65 7 4)) := by
      refine k (-1) _ ⟨rfl, rfl, rfl⟩ (fun Q2 h2 => kM_mark (h := sI h 65 7 4) PM (by show 0 ≤ gI h 113 41; omega) (by show gI h 113 41 ≤ 3; omega) (fun _ => h2 _ a nm (zR_st0 R) ⟨rfl, rfl, rfl⟩ (zBu_0 rfl)) (fun q => absurd (show gI h 113 41 = 3 by omega) q))
    simp (disch := (first | (simp only [gK_sI, gK_sJ, gK_sR, gK_sIA, gK_sJA, gR_sI, gR_sJ, gR_sIA, Nat.reduceLeDiff, Nat.reduceEqDiff, Nat.reduceLT, Int.reduceLE, Int.reduceLT, Int.reduceEq, zWt_i, zWt_l, zWt_r, zWt_n, K, zXkk K, zXr10 K, zXk10 K, zXr11 K, zXk11 K, zXh0 K, e2] <;> omega) | omega | fail)) only [if_pos, if_neg, wI_id, zLc_lt, zLc_gt, zLc_eq, zLc_le, zLc_ge, Int.reduceEq, Int.reduceLE, Int.reduceLT, Int.reduceNeg, Int.reduceAdd, Int.reduceMul, Int.reduceSub, not_true_eq_false, not_false_eq_true, reduceIte, zPo_v, zPo_n, zPo_t, zKl_i, zKl_r, zKl_n, zKl_l, gK_sI, gK_sJ, gK_sR, gK_sIA, gK_sJA, gR_sI, gR_sJ, gJ_sI, gI_sJ, gI_sR, gJ_sR, gR_sIA, gJ_sIA, Nat.reduceLeDiff, Nat.reduceEqDiff, and_self, and_true, true_and, and_false, false_and, eX0_mark_0, eX0_mark_1, eX0_mark_2, eX0_mark_5, eX0_mark_6, eX0_mark_9, eX0_mark_10, eX0_mark_13, eX0_mark_14, eX0_mark_17, eX0_mark_18, eX0_mark_21, eX0_mark_24, eX0_mark_25, eX0_mark_26, eX0_mark_27, eX0_mark_30, eX0_mark_31, eX0_mark_34, eX0_mark_35n, eX0_mark_35s, eX0_mark_38, eX0_mark_39, eX0_mark_42, eX0_mark_43, eX0_mark_46, eX0_mark_49, eX0_mark_50, eX0_mark_53, eX0_mark_54, eX0_mark_55, eX0_mark_58, eX0_mark_59, eX0_mark_62, eX0_mark_63, eX0_mark_64, eX0_mark_67, eX0_mark_70, eX0_mark_71, eX0_mark_72, eX0_mark_75, eX0_mark_76, eX0_mark_77, eX0_mark_80, eX0_mark_81, eX0_mark_84, tX0_mark, eX0_mark_in, K, zXkk K, zXr10 K, zXk10 K, zXr11 K, zXk11 K, zXh0 K, hmm, c3, rd]
    exact h9
  · have key : ∀ (g : zHp) (H : Nat), zGw h g mm → gR g 91 mm = some H → gK g H = (0, 4) → gR g H 0 = some (H + 1) → zWk g (H + 1) → 129 ≤ H → H + 16 < gN g → (∀ i, i < 4 → 5 ≤ (gK g (H + 2 + i)).1) → ((gN h ≤ H ∧ gR h 91 mm = none) ∨ gR h 91 mm = some H) → zEv mX0_mark d 54 [some (zr (some 65))] [] g Q := by
      intro g H G r91 kH rH W H0 H1 kx hor
      obtain ⟨⟨n1, n2⟩, gk, gf, gi, g65, g657, gj, gr, gr91, gc, gs⟩ := G
      have Kg : zXk g := by
        have q := K
        unfold zXk at q ⊢
        simp only [gk 65 (by omega), gk 66 (by omega), gk 67 (by omega), gk 68 (by omega), gk 69 (by omega), gk 70 (by omega), gk 71 (by omega), gk 72 (by omega), gk 73 (by omega), gk 74 (by omega), gk 91 (by omega), gk 108 (by omega), gk 109 (by omega), gk 110 (by omega), gk 111 (by omega), gk 112 (by omega), gr 65 (by omega) (by decide), gr 66 (by omega) (by decide), gr 74 (by omega) (by decide)]
        exact q
      have kO := zXk10 Kg
      have rO := zXh0 Kg
      have i12 : gI g 65 12 = mm := (g65 12 (by decide)).trans hmm
      -- a picture that stays, from h to g
      have wpg : ∀ {w : Nat} {c n : Int → Int}, (w = 75 ∨ (129 ≤ w ∧ w + 15 < gN h)) → zPw h w c n → zPw g w c n := fun {w c n} w1 Pc => zPw_fr Pc (fun b hb => gk b (zRl_k R hb)) (fun b hb => gr b (by
          rcases hb with hb | hb
          · omega
          · exact zRl_k R (by omega)) (by
          rcases hb with hb | hb
          · omega
          · intro e
            rw [e, zXk11 K] at hb
            exact absurd hb.2 (by decide))) (fun b b1 b2 _ => gj b (zRl_k R (by rw [b1]; decide))) (fun b hb => by
          rcases hb with hb | hb
          · exact gi b (by omega) (by omega)
          · exact gi b (zRl_k R (by rw [hb.1]; decide)) (zK8 R hb.1 hb.2.1).1)
      have P75 := wpg (Or.inl rfl) (zRpw R)
      simp (disch := (first | (simp only [gK_sI, gK_sJ, gK_sR, gK_sIA, gK_sJA, gR_sI, gR_sJ, gR_sIA, Nat.reduceLeDiff, Nat.reduceEqDiff, Nat.reduceLT, Int.reduceLE, Int.reduceLT, Int.reduceEq, zWt_i, zWt_l, zWt_r, zWt_n, Kg, zXkk Kg, zXr10 Kg, zXk10 Kg, zXr11 Kg, zXk11 Kg, zXh0 Kg, kH] <;> omega) | omega | fail)) only [if_pos, if_neg, wI_id, zLc_lt, zLc_gt, zLc_eq, zLc_le, zLc_ge, Int.reduceEq, Int.reduceLE, Int.reduceLT, Int.reduceNeg, Int.reduceAdd, Int.reduceMul, Int.reduceSub, not_true_eq_false, not_false_eq_true, reduceIte, zPo_v, zPo_n, zPo_t, zKl_i, zKl_r, zKl_n, zKl_l, gK_sI, gK_sJ, gK_sR, gK_sIA, gK_sJA, gR_sI, gR_sJ, gJ_sI, gI_sJ, gI_sR, gJ_sR, gR_sIA, gJ_sIA, Nat.reduceLeDiff, Nat.reduceEqDiff, and_self, and_true, true_and, and_false, false_and, eX0_mark_0, eX0_mark_1, eX0_mark_2, eX0_mark_5, eX0_mark_6, eX0_mark_9, eX0_mark_10, eX0_mark_13, eX0_mark_14, eX0_mark_17, eX0_mark_18, eX0_mark_21, eX0_mark_24, eX0_mark_25, eX0_mark_26, eX0_mark_27, eX0_mark_30, eX0_mark_31, eX0_mark_34, eX0_mark_35n, eX0_mark_35s, eX0_mark_38, eX0_mark_39, eX0_mark_42, eX0_mark_43, eX0_mark_46, eX0_mark_49, eX0_mark_50, eX0_mark_53, eX0_mark_54, eX0_mark_55, eX0_mark_58, eX0_mark_59, eX0_mark_62, eX0_mark_63, eX0_mark_64, eX0_mark_67, eX0_mark_70, eX0_mark_71, eX0_mark_72, eX0_mark_75, eX0_mark_76, eX0_mark_77, eX0_mark_80, eX0_mark_81, eX0_mark_84, tX0_mark, eX0_mark_in, Kg, zXkk Kg, zXr10 Kg, zXk10 Kg, zXr11 Kg, zXk11 Kg, zXh0 Kg, i12, r91]
      refine kX4_be (by omega) kH rH kO rO (by omega) (by omega) W P75 (zIships (zRiv R)).2 (fun h' P1 P2 S => ?_)
      obtain ⟨s1, sk, sj, sr, -, si⟩ := S
      have K' : zXk (sR h' H 1 (gR h' 74 1)) := by
        have q := Kg
        unfold zXk at q ⊢
        simp only [gK_sR, sk, gR_sR_ne (show (65 : Nat) ≠ H by omega), gR_sR_ne (show (66 : Nat) ≠ H by omega), gR_sR_ne (show (74 : Nat) ≠ H by omega), sr 65 (by omega), sr 66 (by omega), sr 74 (by omega)]
        exact q
      have j12 : gI h' 65 12 = mm := by rw [si 65 (by omega)]; exact i12
      have rd : gI (sI (sR h' H 1 (gR h' 74 1)) 65 12 (mm + 1)) 65 12 = mm + 1 := by rw [gI_sI_eq, zU_eq]
      simp (disch := (first | (simp only [gK_sI, gK_sJ, gK_sR, gK_sIA, gK_sJA, gR_sI, gR_sJ, gR_sIA, Nat.reduceLeDiff, Nat.reduceEqDiff, Nat.reduceLT, Int.reduceLE, Int.reduceLT, Int.reduceEq, zWt_i, zWt_l, zWt_r, zWt_n, K', zXkk K', zXr10 K', zXk10 K', zXr11 K', zXk11 K', zXh0 K'] <;> omega) | omega | fail)) only [if_pos, if_neg, wI_id, zLc_lt, zLc_gt, zLc_eq, zLc_le, zLc_ge, Int.reduceEq, Int.reduceLE, Int.reduceLT, Int.reduceNeg, Int.reduceAdd, Int.reduceMul, Int.reduceSub, not_true_eq_false, not_false_eq_true, reduceIte, zPo_v, zPo_n, zPo_t, zKl_i, zKl_r, zKl_n, zKl_l, gK_sI, gK_sJ, gK_sR, gK_sIA, gK_sJA, gR_sI, gR_sJ, gJ_sI, gI_sJ, gI_sR, gJ_sR, gR_sIA, gJ_sIA, Nat.reduceLeDiff, Nat.reduceEqDiff, and_self, and_true, true_and, and_false, false_and, eX0_mark_0, eX0_mark_1, eX0_mark_2, eX0_mark_5, eX0_mark_6, eX0_mark_9, eX0_mark_10, eX0_mark_13, eX0_mark_14, eX0_mark_17, eX0_mark_18, eX0_mark_21, eX0_mark_24, eX0_mark_25, eX0_mark_26, eX0_mark_27, eX0_mark_30, eX0_mark_31, eX0_mark_34, eX0_mark_35n, eX0_mark_35s, eX0_mark_38, eX0_mark_39, eX0_mark_42, eX0_mark_43, eX0_mark_46, eX0_mark_49, eX0_mark_50, eX0_mark_53, eX0_mark_54, eX0_mark_55, eX0_mark_58, eX0_mark_59, eX0_mark_62, eX0_mark_63, eX0_mark_64, eX0_mark_67, eX0_mark_70, eX0_mark_71, eX0_mark_72, eX0_mark_75, eX0_mark_76, eX0_mark_77, eX0_mark_80, eX0_mark_81, eX0_mark_84, tX0_mark, eX0_mark_in, K', zXkk K', zXr10 K', zXk10 K', zXr11 K', zXk11 K', zXh0 K', j12, rd]
      have N' : gN h' = gN g := congrArg Prod.fst s1
      have e74 : gR h' 74 1 = gR h 74 1 := by rw [sr 74 (by omega), gr 74 (by omega) (by decide)]
      generalize hH5 : sI (sR h' H 1 (gR h' 74 1)) 65 12 (mm + 1) = h5
      have i5 : ∀ c, c ≠ 65 → gI h5 c = gI h' c := fun c hc => by rw [← hH5, gI_sI_ne hc]; rfl
      have k5 : gK h5 = gK h' := by rw [← hH5]; rfl
      have j5 : gJ h5 = gJ h' := by rw [← hH5]; rfl
      have r5 : ∀ c, c ≠ H → gR h5 c = gR h' c := fun c hc => by rw [← hH5]; exact gR_sR_ne hc
      have f5 : h5.1 = h'.1 := by rw [← hH5]; rfl
      have x12 : gI h5 65 12 = mm + 1 := by rw [← hH5]; exact rd
      have x65 : ∀ j, j ≠ 12 → gI h5 65 j = gI h' 65 j := fun j hj => by rw [← hH5, gI_sI_eq, zU_ne hj]; rfl
      have r51 : gR h5 H 1 = gR h 74 1 := by rw [← hH5, e74]; show gR (sR h' H 1 _) H 1 = _; rw [gR_sR_eq, zU_eq]
      have r50 : gR h5 H 0 = some (H + 1) := by
        rw [← hH5]
        show gR (sR h' H 1 _) H 0 = _
        rw [gR_sR_eq, zU_ne (by decide), sr H (by omega)]
        exact rH
      have PM5 : zMk h5 := by
        have q := PM
        unfold zMk at q ⊢
        simp only [k5, sk, gk 113 (by omega), gk 114 (by omega), gk 115 (by omega), gk 116 (by omega), gk 117 (by omega), gk 118 (by omega), gk 119 (by omega), gk 120 (by omega), gk 121 (by omega), gk 122 (by omega), gk 123 (by omega), gk 124 (by omega), gk 125 (by omega), gk 126 (by omega), gk 127 (by omega), gk 128 (by omega), r5 113 (by omega), sr 113 (by omega), gr 113 (by omega) (by decide)]
        exact q
      have o113 : ∀ c, c < gN h → c ≠ 65 → (c < H + 1 ∨ H + 16 < c) → gI h5 c = gI h c := fun c c0 c1 c2 => by rw [i5 c c1, si c (by omega), gi c c0 c1]
      have hHc : gN h ≤ H ∨ H + 16 < gN h := by
        rcases hor with ⟨q, -⟩ | q
        · exact Or.inl q
        · rcases ms2 mm m0 (by omega) with ⟨-, q2⟩ | ⟨H9, q2, q3⟩
          · rw [q] at q2
            cases q2
          · rw [q] at q2
            obtain rfl := Option.some.inj q2
            exact Or.inr q3.2.1
      refine k (mm + 1) h5 ⟨by rw [o113 0 (by omega) (by decide) (by omega)], by rw [k5, sk, gk 0 (by omega)], by rw [k5, sk, gk 113 (by omega)]⟩ (fun Q2 h2 => ?_)
      have e41 : gI h5 113 41 = mm := by rw [o113 113 (by omega) (by decide) (by omega)]; exact hm
      refine kM_mark PM5 (by omega) (by omega) (fun q => absurd (e41.symm.trans q) c3) (fun _ => ?_)
      rw [e41]
      have e114 : gI h5 114 = a := by rw [o113 114 (by omega) (by decide) (by omega)]; exact zRat R
      have j115 : gJ h5 115 = nm := by rw [j5, sj, gj 115 (by omega)]; exact zRnm R
      rw [e114, j115]
      generalize hF : fCps a 572 0 (mm + 1) = b
      generalize hG : fCps nm 24 0 (mm + 1) = mn
      have bLow : ∀ k, k < 572 → b k = a k := fun k hk => by
        rw [← hF]
        unfold fCps
        exact if_neg (by omega)
      have bNew : ∀ k, 0 ≤ k → k < 572 → fSh b 572 mm k = a k := fun k k0 k1 => by
        unfold fSh
        rw [if_pos k0, ← hF]
        unfold fCps
        rw [if_pos (by omega)]
        congr 1
        omega
      have nNew : ∀ k, 0 ≤ k → k < 24 → fSh mn 24 mm k = nm k := fun k k0 k1 => by
        unfold fSh
        rw [if_pos k0, ← hG]
        unfold fCps
        rw [if_pos (by omega)]
        congr 1
        omega
      have nLow : ∀ k, k < 24 → mn k = nm k := fun k hk => by
        rw [← hG]
        unfold fCps
        exact if_neg (by omega)
      have bOld : ∀ m k, 0 ≤ m → m < mm → 0 ≤ k → k < 572 → fSh b 572 m k = fSh a 572 m k := fun m k m0 m1 k0 k1 => by
        unfold fSh
        rw [if_pos k0, if_pos k0, ← hF]
        unfold fCps
        exact if_neg (by omega)
      have nOld : ∀ m k, 0 ≤ m → m < mm → 0 ≤ k → k < 24 → fSh mn 24 m k = fSh nm 24 m k := fun m k m0 m1 k0 k1 => by
        unfold fSh
        rw [if_pos k0, if_pos k0, ← hG]
        unfold fCps
        exact if_neg (by omega)
      generalize hH6 : sI (sJA (sIA (sI h5 113 41 (mm + 1)) 114 b) 115 mn) 113 2 0 = h6
      have k6 : gK h6 = gK g := by rw [← hH6]; exact k5.trans sk
      have r6 : gR h6 = gR h5 := by rw [← hH6]; rfl
      have f6 : h6.1 = g.1 := by rw [← hH6]; exact f5.trans s1
      have i6 : ∀ c, c ≠ 113 → c ≠ 114 → gI h6 c = gI h5 c := fun c c1 c2 => by
        rw [← hH6, gI_sI_ne c1]
        show gI (sIA (sI h5 113 41 (mm + 1)) 114 b) c = _
        rw [gI_sIA_ne c2, gI_sI_ne c1]
      have i6114 : gI h6 114 = b := by
        rw [← hH6, gI_sI_ne (by decide)]
        show gI (sIA (sI h5 113 41 (mm + 1)) 114 b) 114 = _
        rw [gI_sIA_eq]
      have i6113 : ∀ j, j ≠ 2 → j ≠ 41 → gI h6 113 j = gI h 113 j := fun j c1 c2 => by
        rw [← hH6, gI_sI_eq, zU_ne c1]
        show gI (sIA (sI h5 113 41 (mm + 1)) 114 b) 113 j = _
        rw [gI_sIA_ne (by decide), gI_sI_eq, zU_ne c2, o113 113 (by omega) (by decide) (by omega)]
      have i641 : gI h6 113 41 = mm + 1 := by
        rw [← hH6, gI_sI_eq, zU_ne (by decide)]
        show gI (sIA (sI h5 113 41 (mm + 1)) 114 b) 113 41 = _
        rw [gI_sIA_ne (by decide), gI_sI_eq, zU_eq]
      have i62 : gI h6 113 2 = 0 := by rw [← hH6, gI_sI_eq, zU_eq]
      have j6 : ∀ c, c ≠ 115 → gJ h6 c = gJ g c := fun c hc => by
        rw [← hH6]
        show gJ (sJA (sIA (sI h5 113 41 (mm + 1)) 114 b) 115 mn) c = _
        have : gJ (sJA (sIA (sI h5 113 41 (mm + 1)) 114 b) 115 mn) c = gJ h5 c := if_neg hc
        rw [this, j5, sj]
      have j6115 : gJ h6 115 = mn := by
        rw [← hH6]
        show (if (115 : Nat) = 115 then mn else gJ (sIA (sI h5 113 41 (mm + 1)) 114 b) 115) = mn
        exact if_pos rfl
      have x6 : ∀ j, j ≠ 7 → j ≠ 12 → gI h6 65 j = gI h 65 j := fun j c1 c2 => by rw [i6 65 (by decide) (by decide), x65 j c2, si 65 (by omega), g65 j c1]
      have x67 : gI h6 65 7 = 0 := by rw [i6 65 (by decide) (by decide), x65 7 (by decide), si 65 (by omega), g657]
      have x612 : gI h6 65 12 = mm + 1 := by rw [i6 65 (by decide) (by decide), x12]
      have o6 : ∀ c, c < gN h → c ≠ 65 → c ≠ 113 → c ≠ 114 → (c < H + 1 ∨ H + 16 < c) → gI h6 c = gI h c := fun c c0 c1 c2 c3 c4 => by rw [i6 c c2 c3, o113 c c0 c1 c4]
      have q6 : ∀ c, c < gN h → c ≠ H → c ≠ H + 1 → c ≠ 91 → gR h6 c = gR h c := fun c c0 c1 c2 c3 => by rw [r6, r5 c c1, sr c c2, gr c c0 c3]
      have N6 : gN h6 = gN g := congrArg Prod.fst f6
      -- the row of marks: H and the others
      have oth : ∀ m H9, 0 ≤ m → m < 3 → m ≠ mm → gR h 91 m = some H9 → H9 + 16 < H ∨ H + 16 < H9 := fun m H9 a0 a1 a2 a3 => by
        have hl : H9 + 16 < gN h := by
          rcases ms2 m a0 a1 with ⟨-, q⟩ | ⟨H8, q1, q2⟩
          · rw [a3] at q
            cases q
          · rw [a3] at q1
            obtain rfl := Option.some.inj q1
            exact q2.2.1
        rcases hor with ⟨q, -⟩ | q
        · exact Or.inl (by omega)
        · by_cases e : m < mm
          · exact Or.inl (ms3 m mm H9 H a0 e (by omega) a3 q)
          · exact Or.inr (ms3 mm m H H9 m0 (by omega) a1 q a3)
      have rows : ∀ c, zRow h c → c < H ∨ H + 16 < c := fun c q => by
        obtain ⟨t, t0, t1, e⟩ := q
        rcases hor with ⟨q, -⟩ | q
        · exact Or.inl (by have := (zRow_f R ⟨t, t0, t1, e⟩).2.1; omega)
        · exact ms4 mm t H c m0 (by omega) t0 t1 q e
      have o8 : ∀ c, (gK h c).1 = 0 → 8 ≤ (gK h c).2 → c < gN h ∧ gI h6 c = gI h c := fun c c1 c2 => by
        have q := zK8 R c1 c2
        have hl := zRl_k R (b := c) (by rw [c1]; decide)
        refine ⟨hl, o6 c hl q.1 (by omega) (by omega) ?_⟩
        by_cases e : c < H + 1 ∨ H + 16 < c
        · exact e
        · exfalso
          rcases hHc with e9 | e9
          · omega
          · have ck := gk c hl
            have hx : c = H + 1 ∨ c = H + 2 ∨ c = H + 3 ∨ c = H + 4 ∨ c = H + 5 ∨ H + 6 ≤ c := by omega
            rcases hx with e8 | e8 | e8 | e8 | e8 | e8
            · rw [e8] at ck c2
              rw [← ck, zWkk W] at c2
              exact absurd c2 (by decide)
            · have : 5 ≤ (gK g (H + 2)).1 := kx 0 (by omega); rw [e8] at ck c1; rw [← ck] at c1; omega
            · have := kx 1 (by omega); rw [show H + 2 + 1 = c by omega] at this; rw [← ck] at c1; omega
            · have := kx 2 (by omega); rw [show H + 2 + 2 = c by omega] at this; rw [← ck] at c1; omega
            · have := kx 3 (by omega); rw [show H + 2 + 3 = c by omega] at this; rw [← ck] at c1; omega
            · have := zKn (h := g) (w := H + 1) W (by rw [ck]; exact c1) (by rw [ck]; omega)
              omega
      have rob : ∀ c, (6 ≤ (gK h c).1 ∧ (gK h c).1 ≤ 11) ∨ ((gK h c).1 = 0 ∧ 8 ≤ (gK h c).2) → c ≠ 91 → gR h6 c = gR h c := fun c hc c9 => by
        have hl := zRl_k R (b := c) (by omega)
        refine q6 c hl ?_ ?_ c9
        · intro e
          rw [← gk c hl, e, kH] at hc
          exact absurd hc (by decide)
        · intro e
          rw [← gk c hl, e, zWkk W] at hc
          exact absurd hc (by decide)
      have wp6 : ∀ {w : Nat} {c n : Int → Int}, (w = 75 ∨ (129 ≤ w ∧ w + 15 < gN h)) → (w + 15 < H + 1 ∨ H + 16 < w) → zPw h w c n → zPw h6 w c n := fun {w c n} w1 w2 Pc => zPw_fr Pc (fun b hb => by rw [k6]; exact gk b (zRl_k R hb)) (fun b hb => by
          rcases hb with hb | hb
          · exact q6 b (by omega) (by omega) (by omega) (by omega)
          · exact rob b (by omega) (by
              intro e
              rw [e, zXk11 K] at hb
              exact absurd hb.2 (by decide))) (fun b b1 b2 _ => by
          have hl := zRl_k R (b := b) (by rw [b1]; decide)
          rw [j6 b (by have := zK8 R b1 b2; omega), gj b hl]) (fun b hb => by
          rcases hb with hb | hb
          · exact o6 b (by omega) (by omega) (by omega) (by omega) (by omega)
          · exact (o8 b hb.1 hb.2.1).2)
      have wpH : zPw h6 (H + 1) a nm := zPw_fr P1 (fun b _ => by rw [k6, sk]) (fun b hb => by
          rw [r6]
          refine r5 b (fun e => ?_)
          rcases hb with hb | hb
          · omega
          · rw [sk, e, kH] at hb
            exact absurd hb.1 (by decide)) (fun b b1 b2 _ => by
          rw [sk] at b1 b2
          have h115 : b ≠ 115 := fun e => by
            rw [e, gk 115 (by omega), zMk1 PM] at b1
            exact absurd b1 (by decide)
          rw [j6 b h115, ← sj]) (fun b hb => by
          rcases hb with hb | hb
          · rw [i6 b (by omega) (by omega), i5 b (by omega)]
          · rw [sk] at hb
            have h65 : b ≠ 65 := fun e => by
              rw [e, gk 65 (by omega), zXkk K] at hb
              exact absurd hb.2.1 (by decide)
            have h113 : b ≠ 113 := fun e => by
              rw [e, gk 113 (by omega), zMkk PM] at hb
              exact absurd hb.2.1 (by decide)
            have h114 : b ≠ 114 := fun e => by
              rw [e, gk 114 (by omega), zMk0 PM] at hb
              exact absurd hb.1 (by decide)
            rw [i6 b h113 h114, i5 b h65])
      have vo6 : ∀ {o : Option Nat} {c c' : Int → Int}, zSr c c' → zVo h o c → zVo h6 o c' := fun {o c c'} hs q => zVo_fr (fun b hb => by rw [k6]; exact gk b (zRl_k R hb)) (fun b hb => rob b (by omega) (by
          intro e
          rw [e, zXk11 K] at hb
          exact absurd hb (by decide))) (fun b b1 b2 _ => (o8 b b1 (by omega)).2) hs q
      refine h2 h6 b mn (zR_gen2 R (by rw [N6]; exact n1) (fun c hc => by rw [k6]; exact gk c hc) (fun c hc => by rw [k6]; exact gf c (by omega)) (q6 113 (by omega) (by omega) (by omega) (by decide)) (q6 65 (by omega) (by omega) (by omega) (by decide)) (q6 66 (by omega) (by omega) (by omega) (by decide)) (by rw [q6 74 (by omega) (by omega) (by omega) (by decide)]) (fun j _ => by rw [q6 92 (by omega) (by omega) (by omega) (by decide)]) (fun c c0 c1 => q6 c (by omega) (by omega) (by omega) (by omega)) (o6 116 (by omega) (by decide) (by decide) (by decide) (by omega)) (o6 117 (by omega) (by decide) (by decide) (by decide) (by omega)) (by rw [j6 118 (by decide), gj 118 (by omega)]) (fun c q => ?_) (fun c c0 c1 => ⟨o6 c (by omega) (by omega) (by omega) (by omega) (by omega), q6 c (by omega) (by omega) (by omega) (by omega)⟩) i6114 j6115 ?_ ?_ (by rw [x67, i62]) ?_ ?_ ?_ ?_ ?_ ?_ (by rw [x612, i641]) ?_ ?_) ⟨o6 0 (by omega) (by decide) (by decide) (by decide) (by omega), by rw [k6, gk 0 (by omega)], by rw [k6, gk 113 (by omega)]⟩ ⟨by have e : gC h6 = gC g := (by unfold gC; rw [f6]); omega, by have e : gS h6 = gS g := (by unfold gS; rw [f6]); omega, by omega⟩
      · obtain ⟨z1, z2⟩ := zX_row R q
        have z3 := rows c q
        exact ⟨o6 c z2 (by omega) (by omega) (by omega) (by omega), by rw [j6 c (by omega), gj c z2]⟩
      · exact zPw_cg (zRiv R) (fun k _ k1 => bLow k (by omega)) (fun k _ k1 => nLow k k1) (wp6 (Or.inl rfl) (by omega) (zRpw R))
      · exact zIv_cg (fun k _ k1 => bLow k (by omega)) (zRiv R)
      · rw [j6 65 (by decide), j6 113 (by decide), gj 65 (by omega), gj 113 (by omega)]
        exact zRup R
      · rw [x6 2 (by decide) (by decide), i6113 10 (by decide) (by decide)]
        exact zRtd R
      · rw [i6113 10 (by decide) (by decide), o6 71 (by omega) (by decide) (by decide) (by decide) (by omega), o6 119 (by omega) (by decide) (by decide) (by decide) (by omega)]
        exact zRtp R
      · rw [x6 3 (by decide) (by decide), x6 4 (by decide) (by decide), i6113 16 (by decide) (by decide), i6113 17 (by decide) (by decide)]
        exact zRfa R
      · rw [o6 112 (by omega) (by decide) (by decide) (by decide) (by omega), o6 128 (by omega) (by decide) (by decide) (by decide) (by omega)]
        exact zRla R
      · rw [x6 24 (by decide) (by decide), i6113 40 (by decide) (by decide)]
        exact zRli R
      · rw [i641]
        have e91 : ∀ m, m ≠ mm → gR h6 91 m = gR h 91 m := fun m hm9 => by rw [r6, r5 91 (by omega), sr 91 (by omega), gr91 m hm9]
        have e91m : gR h6 91 mm = some H := by rw [r6, r5 91 (by omega), sr 91 (by omega), r91]
        refine ⟨by omega, fun m a0 a1 => ?_, fun m m' H8 H9 a0 a1 a2 q8 q9 => ?_, fun m t H8 r a0 a1 t0 t1 q8 q9 => ?_, fun m m' a0 a1 a2 q8 => ?_⟩
        · by_cases e : m = mm
          · rw [e]
            refine Or.inr ⟨H, e91m, H0, by omega, by rw [k6]; exact kH, by rw [r6]; exact r50, ?_, fun i hi => by rw [k6]; exact kx i hi, fun _ => ?_⟩
            · exact wpH.2.1
            · rw [r6, r51]
              refine ⟨zPw_cg (zRiv R) (fun k k0 k1 => bNew k k0 (by omega)) nNew wpH, zIv_cg (fun k k0 k1 => bNew k k0 (by omega)) (zRiv R), vo6 (fun k hk => ?_) (zRvo R)⟩
              exact bNew k (by omega) (by omega)
          · rw [e91 m e]
            rcases ms2 m a0 a1 with ⟨z1, z2⟩ | ⟨H9, z1, z2, z3, z4, z5, z6, z7, z8⟩
            · exact Or.inl ⟨by omega, z2⟩
            · have ho := oth m H9 a0 a1 e z1
              have e1 : ∀ c, c < gN h → gK h6 c = gK h c := fun c hc => by rw [k6]; exact gk c hc
              refine Or.inr ⟨H9, z1, z2, by omega, by rw [e1 _ (by omega)]; exact z4, by rw [q6 H9 (by omega) (by omega) (by omega) (by omega)]; exact z5, ?_, fun i hi => by rw [e1 _ (by omega)]; exact z7 i hi, fun hlt => ?_⟩
              · have q := z6
                unfold zWk at q ⊢
                simp only [e1 (H9 + 1) (by omega), e1 (H9 + 1 + 5) (by omega), e1 (H9 + 1 + 6) (by omega), e1 (H9 + 1 + 7) (by omega), e1 (H9 + 1 + 8) (by omega), e1 (H9 + 1 + 9) (by omega), e1 (H9 + 1 + 10) (by omega), e1 (H9 + 1 + 11) (by omega), e1 (H9 + 1 + 12) (by omega), e1 (H9 + 1 + 13) (by omega), e1 (H9 + 1 + 14) (by omega), e1 (H9 + 1 + 15) (by omega), q6 (H9 + 1) (by omega) (by omega) (by omega) (by omega)]
                exact q
              · obtain ⟨y1, y2, y3⟩ := z8 (by omega)
                rw [q6 H9 (by omega) (by omega) (by omega) (by omega)]
                refine ⟨zPw_cg y2 (fun k k0 k1 => bOld m k a0 (by omega) k0 (by omega)) (fun k k0 k1 => nOld m k a0 (by omega) k0 k1) (wp6 (Or.inr (by omega)) (by omega) y1), zIv_cg (fun k k0 k1 => bOld m k a0 (by omega) k0 (by omega)) y2, vo6 (fun k hk => ?_) y3⟩
                exact bOld m k a0 (by omega) (by omega) (by omega)
        · by_cases e : m = mm
          · rw [e, e91m] at q8
            obtain rfl := Option.some.inj q8
            rw [e91 m' (by omega)] at q9
            rcases hor with ⟨q, qn⟩ | q
            · rw [ms5 mm m' m0 (by omega) a2 qn] at q9
              cases q9
            · exact ms3 mm m' H H9 m0 (by omega) a2 q q9
          · rw [e91 m e] at q8
            by_cases e' : m' = mm
            · rw [e', e91m] at q9
              obtain rfl := Option.some.inj q9
              have := oth m H8 a0 (by omega) e q8
              rcases hor with ⟨q, -⟩ | q
              · have hl : H8 + 16 < gN h := by
                  rcases ms2 m a0 (by omega) with ⟨-, z⟩ | ⟨H7, z1, z2⟩
                  · rw [q8] at z
                    cases z
                  · rw [q8] at z1
                    obtain rfl := Option.some.inj z1
                    exact z2.2.1
                omega
              · exact ms3 m mm H8 H a0 (by omega) (by omega) q8 q
            · rw [e91 m' e'] at q9
              exact ms3 m m' H8 H9 a0 a1 a2 q8 q9
        · rw [q6 _ (by omega) (by omega) (by omega) (by omega)] at q9
          by_cases e : m = mm
          · rw [e, e91m] at q8
            obtain rfl := Option.some.inj q8
            exact rows r ⟨t, t0, t1, q9⟩
          · rw [e91 m e] at q8
            exact ms4 m t H8 r a0 a1 t0 t1 q8 q9
        · by_cases e : m = mm
          · rw [e, e91m] at q8
            cases q8
          · rw [e91 m e] at q8
            by_cases e' : m' = mm
            · exfalso
              rcases ms2 m a0 (by omega) with ⟨z1, -⟩ | ⟨H7, z1, -⟩
              · omega
              · rw [z1] at q8
                cases q8
            · rw [e91 m' e']
              exact ms5 m m' a0 a1 a2 q8
      · rw [q6 74 (by omega) (by omega) (by omega) (by decide)]
        exact vo6 (fun k hk => bLow k (by omega)) (zRvo R)
    have rd0 : gI (sI h 65 7 0) 65 7 = 0 := by rw [gI_sI_eq, zU_eq]
    have rd12 : ∀ x, gI (sI h 65 7 x) 65 12 = mm := fun x => by rw [gI_sI_eq, zU_ne (by decide)]; exact hmm
    rcases ms2 mm m0 (by omega) with ⟨-, q⟩ | ⟨H, q1, q2, q3, q4, q5, q6, q7, q8⟩
    · have k1 : gK (gNew (sI h 65 7 0) (0, 4) 2) (gN h) = (0, 4) := gK_new_eq rfl
      simp (disch := (first | (simp only [gK_sI, gK_sJ, gK_sR, gK_sIA, gK_sJA, gR_sI, gR_sJ, gR_sIA, Nat.reduceLeDiff, Nat.reduceEqDiff, Nat.reduceLT, Int.reduceLE, Int.reduceLT, Int.reduceEq, zWt_i, zWt_l, zWt_r, zWt_n, K, zXkk K, zXr10 K, zXk10 K, zXr11 K, zXk11 K, zXh0 K, e2] <;> omega) | omega | fail)) only [if_pos, if_neg, wI_id, zLc_lt, zLc_gt, zLc_eq, zLc_le, zLc_ge, Int.reduceEq, Int.reduceLE, Int.reduceLT, Int.reduceNeg, Int.reduceAdd, Int.reduceMul, Int.reduceSub, not_true_eq_false, not_false_eq_true, reduceIte, zPo_v, zPo_n, zPo_t, zKl_i, zKl_r, zKl_n, zKl_l, gK_sI, gK_sJ, gK_sR, gK_sIA, gK_sJA, gR_sI, gR_sJ, gJ_sI, gI_sJ, gI_sR, gJ_sR, gR_sIA, gJ_sIA, Nat.reduceLeDiff, Nat.reduceEqDiff, and_self, and_true, true_and, and_false, false_and, eX0_mark_0, eX0_mark_1, eX0_mark_2, eX0_mark_5, eX0_mark_6, eX0_mark_9, eX0_mark_10, eX0_mark_13, eX0_mark_14, eX0_mark_17, eX0_mark_18, eX0_mark_21, eX0_mark_24, eX0_mark_25, eX0_mark_26, eX0_mark_27, eX0_mark_30, eX0_mark_31, eX0_mark_34, eX0_mark_35n, eX0_mark_35s, eX0_mark_38, eX0_mark_39, eX0_mark_42, eX0_mark_43, eX0_mark_46, eX0_mark_49, eX0_mark_50, eX0_mark_53, eX0_mark_55, eX0_mark_58, eX0_mark_59, eX0_mark_62, eX0_mark_63, eX0_mark_64, eX0_mark_67, eX0_mark_70, eX0_mark_71, eX0_mark_72, eX0_mark_75, eX0_mark_76, eX0_mark_77, eX0_mark_80, eX0_mark_81, eX0_mark_84, tX0_mark, eX0_mark_in, K, zXkk K, zXr10 K, zXk10 K, zXr11 K, zXk11 K, zXh0 K, hmm, c3, rd0, rd12, q, gN_sI]
      have k65 : 65 ≤ gN h := by omega
      simp (disch := (first | (simp only [gK_sI, gK_sJ, gK_sR, gK_sIA, gK_sJA, gR_sI, gR_sJ, gR_sIA, Nat.reduceLeDiff, Nat.reduceEqDiff, Nat.reduceLT, Int.reduceLE, Int.reduceLT, Int.reduceEq, zWt_i, zWt_l, zWt_r, zWt_n, K, zXkk K, zXr10 K, zXk10 K, zXr11 K, zXk11 K, zXh0 K, e2, k1, k65] <;> omega) | omega | fail)) only [if_pos, if_neg, wI_id, zLc_lt, zLc_gt, zLc_eq, zLc_le, zLc_ge, Int.reduceEq, Int.reduceLE, Int.reduceLT, Int.reduceNeg, Int.reduceAdd, Int.reduceMul, Int.reduceSub, not_true_eq_false, not_false_eq_true, reduceIte, zPo_v, zPo_n, zPo_t, zKl_i, zKl_r, zKl_n, zKl_l, gK_sI, gK_sJ, gK_sR, gK_sIA, gK_sJA, gR_sI, gR_sJ, gJ_sI, gI_sJ, gI_sR, gJ_sR, gR_sIA, gJ_sIA, Nat.reduceLeDiff, Nat.reduceEqDiff, and_self, and_true, true_and, and_false, false_and, eX0_mark_0, eX0_mark_1, eX0_mark_2, eX0_mark_5, eX0_mark_6, eX0_mark_9, eX0_mark_10, eX0_mark_13, eX0_mark_14, eX0_mark_17, eX0_mark_18, eX0_mark_21, eX0_mark_24, eX0_mark_25, eX0_mark_26, eX0_mark_27, eX0_mark_30, eX0_mark_31, eX0_mark_34, eX0_mark_35n, eX0_mark_35s, eX0_mark_38, eX0_mark_39, eX0_mark_42, eX0_mark_43, eX0_mark_46, eX0_mark_49, eX0_mark_50, eX0_mark_53, eX0_mark_55, eX0_mark_58, eX0_mark_59, eX0_mark_62, eX0_mark_63, eX0_mark_64, eX0_mark_67, eX0_mark_70, eX0_mark_71, eX0_mark_72, eX0_mark_75, eX0_mark_76, eX0_mark_77, eX0_mark_80, eX0_mark_81, eX0_mark_84, tX0_mark, eX0_mark_in, k1]
      refine kX4_init (h := gNew (sI h 65 7 0) (0, 4) 2) (H := gN h) (by omega) k1 rfl (fun h' W => ?_)
      obtain ⟨w1, w2, w3, w4, w5, -, -, w8, w9, w10, -⟩ := W
      have a1 : ∀ c, c ≠ gN h → c ≠ gN h + 1 → gK (gNew (gNew (sI h 65 7 0) (0, 4) 2) (0, 5) 21) c = gK h c := fun c c0 c1 => by rw [gK_new_ne c1, gK_new_ne (show c ≠ gN (sI h 65 7 0) from c0)]; rfl
      have a2 : ∀ c, c < gN h → gK h' c = gK h c := fun c hc => by rw [w8 c (Or.inl (by omega)), a1 c (by omega) (by omega)]
      have kkH : gK h' (gN h) = (0, 4) := by
        rw [w8 _ (Or.inl (by omega)), gK_new_ne (show gN h ≠ gN (gNew (sI h 65 7 0) (0, 4) 2) from by rw [gN_new, gN_sI]; omega)]
        exact k1
      have kk91 : gK h' 91 = (10, 3) := by rw [a2 91 (by omega)]; exact zXk11 K
      have zA : zAsg 10 4 = true := rfl
      have b1 : ∀ c, c < gN h → gR h' c = gR h c := fun c hc => by rw [w9 c (Or.inl (by omega)), gR_new_ne (show c ≠ gN (gNew (sI h 65 7 0) (0, 4) 2) from by rw [gN_new, gN_sI]; omega), gR_new_ne (show c ≠ gN (sI h 65 7 0) from by rw [gN_sI]; omega)]; rfl
      have b2 : ∀ c, c < gN h → gI h' c = gI (sI h 65 7 0) c ∧ gJ h' c = gJ h c := fun c hc => by
        obtain ⟨z1, z2⟩ := w10 c (Or.inl (by omega))
        rw [z1, z2, gI_new_ne (show c ≠ gN (gNew (sI h 65 7 0) (0, 4) 2) from by rw [gN_new, gN_sI]; omega), gI_new_ne (show c ≠ gN (sI h 65 7 0) from by rw [gN_sI]; omega), gJ_new_ne (show c ≠ gN (gNew (sI h 65 7 0) (0, 4) 2) from by rw [gN_new, gN_sI]; omega), gJ_new_ne (show c ≠ gN (sI h 65 7 0) from by rw [gN_sI]; omega)]
        exact ⟨rfl, rfl⟩
      rw [gC_new, gC_new] at w2
      rw [gS_new, gS_new] at w3
      have w2 : gC h' = gC h + 1 + 1 + 15 := w2
      have w3 : gS h' = gS h + 2 + 21 + 176 := w3
      simp (disch := (first | (simp only [gK_sI, gK_sJ, gK_sR, gK_sIA, gK_sJA, gR_sI, gR_sJ, gR_sIA, Nat.reduceLeDiff, Nat.reduceEqDiff, Nat.reduceLT, Int.reduceLE, Int.reduceLT, Int.reduceEq, zWt_i, zWt_l, zWt_r, zWt_n, kkH, kk91, zA, k65] <;> omega) | omega | fail)) only [if_pos, if_neg, wI_id, zLc_lt, zLc_gt, zLc_eq, zLc_le, zLc_ge, Int.reduceEq, Int.reduceLE, Int.reduceLT, Int.reduceNeg, Int.reduceAdd, Int.reduceMul, Int.reduceSub, not_true_eq_false, not_false_eq_true, reduceIte, zPo_v, zPo_n, zPo_t, zKl_i, zKl_r, zKl_n, zKl_l, gK_sI, gK_sJ, gK_sR, gK_sIA, gK_sJA, gR_sI, gR_sJ, gJ_sI, gI_sJ, gI_sR, gJ_sR, gR_sIA, gJ_sIA, Nat.reduceLeDiff, Nat.reduceEqDiff, and_self, and_true, true_and, and_false, false_and, eX0_mark_0, eX0_mark_1, eX0_mark_2, eX0_mark_5, eX0_mark_6, eX0_mark_9, eX0_mark_10, eX0_mark_13, eX0_mark_14, eX0_mark_17, eX0_mark_18, eX0_mark_21, eX0_mark_24, eX0_mark_25, eX0_mark_26, eX0_mark_27, eX0_mark_30, eX0_mark_31, eX0_mark_34, eX0_mark_35n, eX0_mark_35s, eX0_mark_38, eX0_mark_39, eX0_mark_42, eX0_mark_43, eX0_mark_46, eX0_mark_49, eX0_mark_50, eX0_mark_53, eX0_mark_55, eX0_mark_58, eX0_mark_59, eX0_mark_62, eX0_mark_63, eX0_mark_64, eX0_mark_67, eX0_mark_70, eX0_mark_71, eX0_mark_72, eX0_mark_75, eX0_mark_76, eX0_mark_77, eX0_mark_80, eX0_mark_81, eX0_mark_84, tX0_mark, eX0_mark_in, kkH, kk91, gK_sR]
      have n91 : gN h ≠ 91 := by omega
      refine key (sR (sR h' (gN h) 0 (some (gN h + 1))) 91 mm (some (gN h))) (gN h) ⟨⟨by rw [gN_sR, gN_sR]; omega, by rw [gN_sR, gN_sR]; omega⟩, fun c hc => a2 c hc, fun c hc => ?_, fun c hc c65 => ?_, fun j hj => ?_, ?_, fun c hc => (b2 c hc).2, fun c hc c91 => ?_, fun j hj => ?_, by rw [gC_sR, gC_sR]; omega, by rw [gS_sR, gS_sR]; omega⟩ ?_ kkH ?_ ?_ g0 (by rw [gN_sR, gN_sR]; omega) (fun i hi => ?_) (Or.inl ⟨Nat.le_refl _, q⟩)
      · rw [gN_sR, gN_sR] at hc
        show gK h' c = _
        rw [w8 c (Or.inr (by omega)), a1 c (by omega) (by omega)]
        exact (zRfr R).2 c (by omega)
      · show gI h' c = _
        rw [(b2 c hc).1, gI_sI_ne c65]
      · show gI h' 65 j = _
        rw [(b2 65 (by omega)).1, gI_sI_eq, zU_ne hj]
      · show gI h' 65 7 = 0
        rw [(b2 65 (by omega)).1]
        exact rd0
      · by_cases e : c = gN h
        · omega
        · rw [gR_sR_ne c91, gR_sR_ne e, b1 c hc]
      · rw [gR_sR_eq, zU_ne hj, gR_sR_ne (Ne.symm n91), b1 91 (by omega)]
      · rw [gR_sR_eq, zU_eq]
      · rw [gR_sR_ne n91, gR_sR_eq, zU_eq]
      · have q9 := w4
        unfold zWk at q9 ⊢
        rw [gK_sR, gK_sR, gR_sR_ne (show gN h + 1 ≠ 91 by omega), gR_sR_ne (show gN h + 1 ≠ gN h by omega)]
        exact q9
      · have q9 := w5 i hi
        show 5 ≤ (gK h' (gN h + 2 + i)).1
        rw [show gN h + 2 + i = gN h + 1 + 1 + i by omega]
        exact q9
    · simp (disch := (first | (simp only [gK_sI, gK_sJ, gK_sR, gK_sIA, gK_sJA, gR_sI, gR_sJ, gR_sIA, Nat.reduceLeDiff, Nat.reduceEqDiff, Nat.reduceLT, Int.reduceLE, Int.reduceLT, Int.reduceEq, zWt_i, zWt_l, zWt_r, zWt_n, K, zXkk K, zXr10 K, zXk10 K, zXr11 K, zXk11 K, zXh0 K, e2] <;> omega) | omega | fail)) only [if_pos, if_neg, wI_id, zLc_lt, zLc_gt, zLc_eq, zLc_le, zLc_ge, Int.reduceEq, Int.reduceLE, Int.reduceLT, Int.reduceNeg, Int.reduceAdd, Int.reduceMul, Int.reduceSub, not_true_eq_false, not_false_eq_true, reduceIte, zPo_v, zPo_n, zPo_t, zKl_i, zKl_r, zKl_n, zKl_l, gK_sI, gK_sJ, gK_sR, gK_sIA, gK_sJA, gR_sI, gR_sJ, gJ_sI, gI_sJ, gI_sR, gJ_sR, gR_sIA, gJ_sIA, Nat.reduceLeDiff, Nat.reduceEqDiff, and_self, and_true, true_and, and_false, false_and, eX0_mark_0, eX0_mark_1, eX0_mark_2, eX0_mark_5, eX0_mark_6, eX0_mark_9, eX0_mark_10, eX0_mark_13, eX0_mark_14, eX0_mark_17, eX0_mark_18, eX0_mark_21, eX0_mark_24, eX0_mark_25, eX0_mark_26, eX0_mark_27, eX0_mark_30, eX0_mark_31, eX0_mark_34, eX0_mark_35n, eX0_mark_35s, eX0_mark_38, eX0_mark_39, eX0_mark_42, eX0_mark_43, eX0_mark_46, eX0_mark_49, eX0_mark_50, eX0_mark_53, eX0_mark_55, eX0_mark_58, eX0_mark_59, eX0_mark_62, eX0_mark_63, eX0_mark_64, eX0_mark_67, eX0_mark_70, eX0_mark_71, eX0_mark_72, eX0_mark_75, eX0_mark_76, eX0_mark_77, eX0_mark_80, eX0_mark_81, eX0_mark_84, tX0_mark, eX0_mark_in, K, zXkk K, zXr10 K, zXk10 K, zXr11 K, zXk11 K, zXh0 K, hmm, c3, rd0, rd12, q1]
      exact key (sI h 65 7 0) H ⟨⟨Nat.le_refl _, by show gN h ≤ _; omega⟩, fun c _ => rfl, fun c hc => (zRfr R).2 c hc, fun c _ hc => gI_sI_ne hc, fun j hj => by rw [gI_sI_eq, zU_ne hj], rd0, fun c _ => rfl, fun c _ _ => rfl, fun j _ => rfl, by show gC h ≤ _; omega, by show gS h ≤ _; omega⟩ q1 q4 q5 q6 q2 q3 q7 (Or.inr q1)
end J7
