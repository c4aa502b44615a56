/-! ===== BOTH SIDES JOINED, 10: undo ===== -/
set_option maxRecDepth 100000
set_option maxHeartbeats 2000000
section J10
variable {d : Nat}
theorem jO_undo : zOp zi d mX0_undo mX6_undo [] := fun Q h a nm R k => by
  have K := zRxk R
  have e2 : ∀ x, zXk (sI h 65 7 x) := fun _ => K
  have PM := zRmk R
  have hmm := zRmm R
  have g0 := (zRfr R).1
  obtain ⟨⟨m0, m3⟩, ms2, ms3, ms4, ms5⟩ := zRms R
  generalize hm : gI h 113 41 = mm at *
  by_cases c0 : mm = 0
  · have rd : gI (sI h 65 7 6) 65 7 = 6 := by rw [gI_sI_eq, zU_eq]
    have h9 : Q (zRv (zi (-1)) (sI h 65 7 6)) := by
      refine k (-1) _ ⟨rfl, rfl, rfl⟩ (fun Q2 h2 => kM_undo (h := sI h 65 7 6) PM (by show 0 ≤ gI h 113 41; omega) (by show gI h 113 41 ≤ 3; omega) (fun _ => h2 _ a nm (zR_st0 R) ⟨rfl, rfl, rfl⟩ (zBu_0 rfl)) (fun q => absurd (show gI h 113 41 = 0 by omega) q))
    simp (disch := (first | (simp only [gK_sI, gK_sJ, gK_sR, gK_sIA, gK_sJA, gR_sI, gR_sJ, gR_sIA, Nat.reduceLeDiff, Nat.reduceEqDiff, Nat.reduceLT, Int.reduceLE, Int.reduceLT, Int.reduceEq, zWt_i, zWt_l, zWt_r, zWt_n, K, zXkk K, zXr10 K, zXk10 K, zXr11 K, zXk11 K, zXh0 K, e2] <;> omega) | omega | fail)) only [if_pos, if_neg, wI_id, zLc_lt, zLc_gt, zLc_eq, zLc_le, zLc_ge, Int.reduceEq, Int.reduceLE, Int.reduceLT, Int.reduceNeg, Int.reduceAdd, Int.reduceMul, Int.reduceSub, not_true_eq_false, not_false_eq_true, reduceIte, zPo_v, zPo_n, zPo_t, zKl_i, zKl_r, zKl_n, zKl_l, gK_sI, gK_sJ, gK_sR, gK_sIA, gK_sJA, gR_sI, gR_sJ, gJ_sI, gI_sJ, gI_sR, gJ_sR, gR_sIA, gJ_sIA, Nat.reduceLeDiff, Nat.reduceEqDiff, and_self, and_true, true_and, and_false, false_and, eX0_undo_0, eX0_undo_1, eX0_undo_2, eX0_undo_5, eX0_undo_8, eX0_undo_10, eX0_undo_13, eX0_undo_14, eX0_undo_17, eX0_undo_18, eX0_undo_21, eX0_undo_24, eX0_undo_25, eX0_undo_26, eX0_undo_27, eX0_undo_28, eX0_undo_31, eX0_undo_32, eX0_undo_33, eX0_undo_36, eX0_undo_37, eX0_undo_40, eX0_undo_41, eX0_undo_44, eX0_undo_45, eX0_undo_48, eX0_undo_49, eX0_undo_52, eX0_undo_53, eX0_undo_56, tX0_undo, eX0_undo_in, K, zXkk K, zXr10 K, zXk10 K, zXr11 K, zXk11 K, zXh0 K, hmm, c0, rd]
    exact h9
  · rcases ms2 (mm - 1) (by omega) (by omega) with ⟨z, -⟩ | ⟨H, q1, q2, q3, q4, q5, q6, q7, q8⟩
    · exact absurd z (by omega)
    · obtain ⟨y1, y2, y3⟩ := q8 (by omega)
      generalize hc : fSh a 572 (mm - 1) = c at y1 y2 y3
      generalize hn : fSh nm 24 (mm - 1) = n at y1
      have rd0 : gI (sI h 65 7 0) 65 7 = 0 := by rw [gI_sI_eq, zU_eq]
      have rd12 : gI (sI h 65 7 0) 65 12 = mm := by rw [gI_sI_eq, zU_ne (by decide)]; exact hmm
      have rdg : gI (sI (sI h 65 7 0) 65 12 (mm - 1)) 65 12 = mm - 1 := by rw [gI_sI_eq, zU_eq]
      have Kg : zXk (sI (sI h 65 7 0) 65 12 (mm - 1)) := K
      simp (disch := (first | (simp only [gK_sI, gK_sJ, gK_sR, gK_sIA, gK_sJA, gR_sI, gR_sJ, gR_sIA, Nat.reduceLeDiff, Nat.reduceEqDiff, Nat.reduceLT, Int.reduceLE, Int.reduceLT, Int.reduceEq, zWt_i, zWt_l, zWt_r, zWt_n, K, zXkk K, zXr10 K, zXk10 K, zXr11 K, zXk11 K, zXh0 K, Kg, zXkk Kg, zXr10 Kg, zXk10 Kg, zXr11 Kg, zXk11 Kg, zXh0 Kg, e2, q4] <;> omega) | omega | fail)) only [if_pos, if_neg, wI_id, zLc_lt, zLc_gt, zLc_eq, zLc_le, zLc_ge, Int.reduceEq, Int.reduceLE, Int.reduceLT, Int.reduceNeg, Int.reduceAdd, Int.reduceMul, Int.reduceSub, not_true_eq_false, not_false_eq_true, reduceIte, zPo_v, zPo_n, zPo_t, zKl_i, zKl_r, zKl_n, zKl_l, gK_sI, gK_sJ, gK_sR, gK_sIA, gK_sJA, gR_sI, gR_sJ, gJ_sI, gI_sJ, gI_sR, gJ_sR, gR_sIA, gJ_sIA, Nat.reduceLeDiff, Nat.reduceEqDiff, and_self, and_true, true_and, and_false, false_and, eX0_undo_0, eX0_undo_1, eX0_undo_2, eX0_undo_5, eX0_undo_8, eX0_undo_10, eX0_undo_13, eX0_undo_14, eX0_undo_17, eX0_undo_18, eX0_undo_21, eX0_undo_24, eX0_undo_25, eX0_undo_26, eX0_undo_27, eX0_undo_28, eX0_undo_31, eX0_undo_32, eX0_undo_33, eX0_undo_36, eX0_undo_37, eX0_undo_40, eX0_undo_41, eX0_undo_44, eX0_undo_45, eX0_undo_48, eX0_undo_49, eX0_undo_52, eX0_undo_53, eX0_undo_56, tX0_undo, eX0_undo_in, K, zXkk K, zXr10 K, zXk10 K, zXr11 K, zXk11 K, zXh0 K, hmm, c0, rd0, rd12, rdg, q1]
      have gk : gK (sI (sI h 65 7 0) 65 12 (mm - 1)) = gK h := rfl
      have gr : gR (sI (sI h 65 7 0) 65 12 (mm - 1)) = gR h := rfl
      have gj : gJ (sI (sI h 65 7 0) 65 12 (mm - 1)) = gJ h := rfl
      have gf : (sI (sI h 65 7 0) 65 12 (mm - 1)).1 = h.1 := rfl
      have gi : ∀ b, b ≠ 65 → gI (sI (sI h 65 7 0) 65 12 (mm - 1)) b = gI h b := fun b hb => by rw [gI_sI_ne hb, gI_sI_ne hb]
      have g65 : ∀ j, j ≠ 7 → j ≠ 12 → gI (sI (sI h 65 7 0) 65 12 (mm - 1)) 65 j = gI h 65 j := fun j j1 j2 => by rw [gI_sI_eq, zU_ne j2, gI_sI_eq, zU_ne j1]
      have g657 : gI (sI (sI h 65 7 0) 65 12 (mm - 1)) 65 7 = 0 := by rw [gI_sI_eq, zU_ne (by decide)]; exact rd0
      generalize sI (sI h 65 7 0) 65 12 (mm - 1) = g at rdg Kg gk gr gj gf gi g65 g657 ⊢
      have Wg : zWk g 75 := by
        have q := (zRpw R).2.1
        unfold zWk at q ⊢
        rw [gk, gr]
        exact q
      have Pg : zPw g (H + 1) c n := zPw_fr y1 (fun b _ => by rw [gk]) (fun b _ => by rw [gr]) (fun b _ _ _ => by rw [gj]) (fun b hb => by
        rcases hb with hb | hb
        · exact gi b (by omega)
        · exact gi b (zK8 R hb.1 hb.2.1).1)
      refine kX4_be (H := 74) (O := H) (w := 75) (o := H + 1) (by decide) (zXk10 Kg) (zXh0 Kg) (by rw [gk]; exact q4) (by rw [gr]; exact q5) (by decide) (by omega) Wg Pg (zIships y2).2 (fun h' P1 P2 S => ?_)
      obtain ⟨s1, sk, sj, sr, -, si⟩ := S
      have K' : zXk (sR h' 74 1 (gR h' H 1)) := by
        have q := Kg
        unfold zXk at q ⊢
        simp (disch := decide) only [gK_sR, sk, gR_sR_ne, gR_sR_eq, zU_ne, sr]
        exact q
      have j12 : gI h' 65 12 = mm - 1 := by rw [si 65 (by omega)]; exact rdg
      simp (disch := (first | (simp only [gK_sI, gK_sJ, gK_sR, gK_sIA, gK_sJA, gR_sI, gR_sJ, gR_sIA, Nat.reduceLeDiff, Nat.reduceEqDiff, Nat.reduceLT, Int.reduceLE, Int.reduceLT, Int.reduceEq, zWt_i, zWt_l, zWt_r, zWt_n, K', zXkk K', zXr10 K', zXk10 K', zXr11 K', zXk11 K', zXh0 K'] <;> omega) | omega | fail)) only [if_pos, if_neg, wI_id, zLc_lt, zLc_gt, zLc_eq, zLc_le, zLc_ge, Int.reduceEq, Int.reduceLE, Int.reduceLT, Int.reduceNeg, Int.reduceAdd, Int.reduceMul, Int.reduceSub, not_true_eq_false, not_false_eq_true, reduceIte, zPo_v, zPo_n, zPo_t, zKl_i, zKl_r, zKl_n, zKl_l, gK_sI, gK_sJ, gK_sR, gK_sIA, gK_sJA, gR_sI, gR_sJ, gJ_sI, gI_sJ, gI_sR, gJ_sR, gR_sIA, gJ_sIA, Nat.reduceLeDiff, Nat.reduceEqDiff, and_self, and_true, true_and, and_false, false_and, eX0_undo_0, eX0_undo_1, eX0_undo_2, eX0_undo_5, eX0_undo_8, eX0_undo_10, eX0_undo_13, eX0_undo_14, eX0_undo_17, eX0_undo_18, eX0_undo_21, eX0_undo_24, eX0_undo_25, eX0_undo_26, eX0_undo_27, eX0_undo_28, eX0_undo_31, eX0_undo_32, eX0_undo_33, eX0_undo_36, eX0_undo_37, eX0_undo_40, eX0_undo_41, eX0_undo_44, eX0_undo_45, eX0_undo_48, eX0_undo_49, eX0_undo_52, eX0_undo_53, eX0_undo_56, tX0_undo, eX0_undo_in, K', zXkk K', zXr10 K', zXk10 K', zXr11 K', zXk11 K', zXh0 K', j12, gI_sR]
      have eH1 : gR h' H 1 = gR h H 1 := by rw [sr H (by omega), gr]
      rw [eH1]
      generalize hH5 : sR h' 74 1 (gR h H 1) = h5
      have i5 : gI h5 = gI h' := by rw [← hH5]; rfl
      have k5 : gK h5 = gK h := by rw [← hH5, ← gk, ← sk]; rfl
      have j5 : gJ h5 = gJ h := by rw [← hH5, ← gj, ← sj]; rfl
      have r5 : ∀ b, b ≠ 74 → b ≠ 75 → gR h5 b = gR h b := fun b b1 b2 => by rw [← hH5, gR_sR_ne b1, sr b b2, gr]
      have r574 : gR h5 74 0 = gR h 74 0 := by rw [← hH5, gR_sR_eq, zU_ne (by decide), sr 74 (by decide), gr]
      have r741 : gR h5 74 1 = gR h H 1 := by rw [← hH5, gR_sR_eq, zU_eq]
      have f5 : h5.1 = h.1 := by rw [← hH5]; exact s1.trans gf
      have PM5 : zMk h5 := by
        have q := PM
        unfold zMk at q ⊢
        rw [k5, r5 113 (by decide) (by decide)]
        exact q
      have o5 : ∀ b, b ≠ 65 → (b < 75 ∨ 90 < b ∨ (75 < b ∧ b < 80)) → gI h5 b = gI h b := fun b b1 b2 => by rw [i5, si b (by omega), gi b b1]
      refine k (mm - 1) h5 ⟨o5 0 (by decide) (by omega), by rw [k5], by rw [k5]⟩ (fun Q2 h2 => ?_)
      have e41 : gI h5 113 41 = mm := by rw [o5 113 (by decide) (by omega)]; exact hm
      refine kM_undo PM5 (by omega) (by omega) (fun q => absurd (e41.symm.trans q) c0) (fun _ => ?_)
      rw [e41]
      have e114 : gI h5 114 = a := by rw [o5 114 (by decide) (by omega)]; exact zRat R
      have j115 : gJ h5 115 = nm := by rw [j5]; exact zRnm R
      rw [e114, j115]
      generalize hF : fCps a 572 mm 0 = b
      generalize hG : fCps nm 24 mm 0 = mn
      have bNew : ∀ k, 0 ≤ k → k < 572 → b k = c k := fun k k0 k1 => by
        rw [← hF, ← hc]
        unfold fCps fSh
        rw [if_pos (by omega), if_pos k0]
        congr 1
        omega
      have nNew : ∀ k, 0 ≤ k → k < 24 → mn k = n k := fun k k0 k1 => by
        rw [← hG, ← hn]
        unfold fCps fSh
        rw [if_pos (by omega), if_pos k0]
        congr 1
        omega
      have bOld : ∀ m k, 0 ≤ m → 0 ≤ k → k < 572 → fSh b 572 m k = fSh a 572 m k := fun m k m0 k0 k1 => by
        unfold fSh
        rw [if_pos k0, if_pos k0, ← hF]
        unfold fCps
        exact if_neg (by omega)
      have nOld : ∀ m k, 0 ≤ m → 0 ≤ k → k < 24 → fSh mn 24 m k = fSh nm 24 m k := fun m k m0 k0 k1 => by
        unfold fSh
        rw [if_pos k0, if_pos k0, ← hG]
        unfold fCps
        exact if_neg (by omega)
      generalize hH6 : sI (sI (sJA (sIA h5 114 b) 115 mn) 113 41 (mm - 1)) 113 2 0 = h6
      have k6 : gK h6 = gK h := by rw [← hH6]; exact k5
      have r6 : gR h6 = gR h5 := by rw [← hH6]; rfl
      have f6 : h6.1 = h.1 := by rw [← hH6]; exact f5
      have N6 : gN h6 = gN h := congrArg Prod.fst f6
      have i6 : ∀ b', b' ≠ 113 → b' ≠ 114 → gI h6 b' = gI h5 b' := fun b' c1 c2 => by
        rw [← hH6, gI_sI_ne c1, gI_sI_ne c1]
        show gI (sIA h5 114 b) b' = _
        rw [gI_sIA_ne c2]
      have i6114 : gI h6 114 = b := by
        rw [← hH6, gI_sI_ne (by decide), gI_sI_ne (by decide)]
        show gI (sIA h5 114 b) 114 = _
        rw [gI_sIA_eq]
      have i6113 : ∀ j, j ≠ 2 → j ≠ 41 → gI h6 113 j = gI h 113 j := fun j c1 c2 => by
        rw [← hH6, gI_sI_eq, zU_ne c1, gI_sI_eq, zU_ne c2]
        show gI (sIA h5 114 b) 113 j = _
        rw [gI_sIA_ne (by decide), o5 113 (by decide) (by omega)]
      have i641 : gI h6 113 41 = mm - 1 := by rw [← hH6, gI_sI_eq, zU_ne (by decide), gI_sI_eq, zU_eq]
      have i62 : gI h6 113 2 = 0 := by rw [← hH6, gI_sI_eq, zU_eq]
      have j6 : ∀ b', b' ≠ 115 → gJ h6 b' = gJ h b' := fun b' hb' => by
        rw [← hH6]
        show gJ (sJA (sIA h5 114 b) 115 mn) b' = _
        have : gJ (sJA (sIA h5 114 b) 115 mn) b' = gJ h5 b' := if_neg hb'
        rw [this, j5]
      have j6115 : gJ h6 115 = mn := by
        rw [← hH6]
        show (if (115 : Nat) = 115 then mn else gJ (sIA h5 114 b) 115) = mn
        exact if_pos rfl
      have x6 : ∀ j, j ≠ 7 → j ≠ 12 → gI h6 65 j = gI h 65 j := fun j c1 c2 => by rw [i6 65 (by decide) (by decide), i5, si 65 (by omega), g65 j c1 c2]
      have x67 : gI h6 65 7 = 0 := by rw [i6 65 (by decide) (by decide), i5, si 65 (by omega), g657]
      have x612 : gI h6 65 12 = mm - 1 := by rw [i6 65 (by decide) (by decide), i5, j12]
      have o6 : ∀ b', b' ≠ 65 → b' ≠ 113 → b' ≠ 114 → (b' < 75 ∨ 90 < b' ∨ (75 < b' ∧ b' < 80)) → gI h6 b' = gI h b' := fun b' c1 c2 c3 c4 => by rw [i6 b' c2 c3, o5 b' c1 c4]
      have q6' : ∀ b', b' ≠ 74 → b' ≠ 75 → gR h6 b' = gR h b' := fun b' c1 c2 => by rw [r6, r5 b' c1 c2]
      have o8 : ∀ b', (gK h b').1 = 0 → 8 ≤ (gK h b').2 → gI h6 b' = gI h b' := fun b' c1 c2 => by
        have q := zK8 R c1 c2
        exact o6 b' q.1 (by omega) (by omega) (by omega)
      have rob : ∀ b', (6 ≤ (gK h b').1 ∧ (gK h b').1 ≤ 11) ∨ ((gK h b').1 = 0 ∧ 8 ≤ (gK h b').2) → gR h6 b' = gR h b' := fun b' hb' => by
        refine q6' b' ?_ ?_
        · intro e
          rw [e, zXk10 K] at hb'
          exact absurd hb' (by decide)
        · intro e
          rw [e, zWkk (zRpw R).2.1] at hb'
          exact absurd hb' (by decide)
      have wp6 : ∀ {w : Nat} {c n : Int → Int}, 129 ≤ w → zPw h w c n → zPw h6 w c n := fun {w c n} w1 Pc => zPw_fr Pc (fun b' _ => by rw [k6]) (fun b' hb' => by
          rcases hb' with hb' | hb'
          · exact q6' b' (by omega) (by omega)
          · exact rob b' (by omega)) (fun b' b1 b2 _ => j6 b' (by have := zK8 R b1 b2; omega)) (fun b' hb' => by
          rcases hb' with hb' | hb'
          · exact o6 b' (by omega) (by omega) (by omega) (by omega)
          · exact o8 b' hb'.1 hb'.2.1)
      have wpH : zPw h6 75 c n := zPw_fr P1 (fun b' _ => by rw [k6, sk, gk]) (fun b' hb' => by
          rw [r6, ← hH5]
          refine gR_sR_ne (fun e => ?_)
          rcases hb' with hb' | hb'
          · omega
          · rw [sk, gk, e, zXk10 K] at hb'
            exact absurd hb'.1 (by decide)) (fun b' b1 b2 _ => by
          rw [sk, gk] at b1 b2
          rw [j6 b' (by have := zK8 R b1 b2; omega), sj, gj]) (fun b' hb' => by
          rcases hb' with hb' | hb'
          · rw [i6 b' (by omega) (by omega), i5]
          · rw [sk, gk] at hb'
            have := zK8 R hb'.1 hb'.2.1
            rw [i6 b' (by omega) (by omega), i5])
      have vo6 : ∀ {o : Option Nat} {c c' : Int → Int}, zSr c c' → zVo h o c → zVo h6 o c' := fun {o c c'} hs q => zVo_fr (fun b' _ => by rw [k6]) (fun b' hb' => rob b' (by omega)) (fun b' b1 b2 _ => o8 b' b1 (by omega)) hs q
      refine h2 h6 b mn (zR_gen2 R (by omega) (fun b' _ => by rw [k6]) (fun b' hb' => by rw [k6]; exact (zRfr R).2 b' (by omega)) (q6' 113 (by decide) (by decide)) (q6' 65 (by decide) (by decide)) (q6' 66 (by decide) (by decide)) (by rw [r6, r574]) (fun j _ => by rw [q6' 92 (by decide) (by decide)]) (fun b' c1 c2 => q6' b' (by omega) (by omega)) (o6 116 (by decide) (by decide) (by decide) (by omega)) (o6 117 (by decide) (by decide) (by decide) (by omega)) (j6 118 (by decide)) (fun b' q => ?_) (fun b' c1 c2 => ⟨o6 b' (by omega) (by omega) (by omega) (by omega), q6' b' (by omega) (by omega)⟩) i6114 j6115 ?_ ?_ (by rw [x67, i62]) ?_ ?_ ?_ ?_ ?_ ?_ (by rw [x612, i641]) ?_ ?_) ⟨o6 0 (by decide) (by decide) (by decide) (by omega), by rw [k6], by rw [k6]⟩ (zBu_0 f6)
      · have z := (zX_row R q).1
        exact ⟨o6 b' (by omega) (by omega) (by omega) (by omega), j6 b' (by omega)⟩
      · exact zPw_cg y2 (fun k k0 k1 => bNew k k0 (by omega)) (fun k k0 k1 => nNew k k0 k1) wpH
      · exact zIv_cg (fun k k0 k1 => bNew k k0 (by omega)) y2
      · rw [j6 65 (by decide), j6 113 (by decide)]
        exact zRup R
      · rw [x6 2 (by decide) (by decide), i6113 10 (by decide) (by decide)]
        exact zRtd R
      · rw [i6113 10 (by decide) (by decide), o6 71 (by decide) (by decide) (by decide) (by omega), o6 119 (by decide) (by decide) (by decide) (by omega)]
        exact zRtp R
      · rw [x6 3 (by decide) (by decide), x6 4 (by decide) (by decide), i6113 16 (by decide) (by decide), i6113 17 (by decide) (by decide)]
        exact zRfa R
      · rw [o6 112 (by decide) (by decide) (by decide) (by omega), o6 128 (by decide) (by decide) (by decide) (by omega)]
        exact zRla R
      · rw [x6 24 (by decide) (by decide), i6113 40 (by decide) (by decide)]
        exact zRli R
      · rw [i641]
        have e91 : gR h6 91 = gR h 91 := q6' 91 (by decide) (by decide)
        refine ⟨by omega, fun m a0 a1 => ?_, by rw [e91]; exact ms3, fun m t H8 r a0 a1 t0 t1 z8 z9 => ?_, by rw [e91]; exact ms5⟩
        · rw [e91]
          rcases ms2 m a0 a1 with ⟨z1, z2⟩ | ⟨H9, z1, z2, z3, z4, z5, z6, z7, z8⟩
          · exact Or.inl ⟨by omega, z2⟩
          · refine Or.inr ⟨H9, z1, z2, by omega, by rw [k6]; exact z4, by rw [q6' H9 (by omega) (by omega)]; exact z5, ?_, fun i hi => by rw [k6]; exact z7 i hi, fun hlt => ?_⟩
            · have q := z6
              unfold zWk at q ⊢
              rw [k6, q6' (H9 + 1) (by omega) (by omega)]
              exact q
            · obtain ⟨u1, u2, u3⟩ := z8 (by omega)
              rw [q6' H9 (by omega) (by omega)]
              refine ⟨zPw_cg u2 (fun k k0 k1 => bOld m k a0 k0 (by omega)) (fun k k0 k1 => nOld m k a0 k0 k1) (wp6 (by omega) u1), zIv_cg (fun k k0 k1 => bOld m k a0 k0 (by omega)) u2, vo6 (fun k hk => ?_) u3⟩
              exact bOld m k a0 (by omega) (by omega)
        · rw [e91] at z8
          rw [q6' _ (by omega) (by omega)] at z9
          exact ms4 m t H8 r a0 a1 t0 t1 z8 z9
      · rw [r6, r741]
        exact vo6 (fun k hk => bNew k (by omega) (by omega)) y3
end J10
