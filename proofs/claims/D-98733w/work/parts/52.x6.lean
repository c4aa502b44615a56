/-! ===== A WORLD OF THE COMPONENT, 6: a ship's day, a day ===== -/
set_option maxRecDepth 100000
theorem fGo_low {a : Int → Int} {s k : Int} (h0 : 0 ≤ s) (hk : k < 146) : (fGo a s).1 k = a k := by
  have e1 : fLeak (fPay a s) s k = a k := by rw [fLeak_ne (by omega), fPay_ne (by omega) (by omega)]
  have e2 : fTick (fLeak (fPay a s) s) s k = a k := by rw [fTick_ne (by omega), e1]
  unfold fGo
  split
  · exact e1
  · split
    · exact e2
    · show fCome (fTick (fLeak (fPay a s) s) s) s k = a k
      unfold fCome
      split
      · rw [fLand_ne (by omega) (by omega)]
        exact e2
      · rw [fDuty_ne (by omega) (by omega), fLand_ne (by omega) (by omega)]
        exact e2
theorem fGo_set {a : Int → Int} {s : Int} : (fGo a s).2 = 0 ∨ (fGo a s).2 = 1 := by
  unfold fGo
  split
  · exact Or.inl rfl
  · split
    · exact Or.inl rfl
    · exact Or.inr rfl
/-- facts of a ship that comes in -/
theorem fCome_f {a : Int → Int} {s : Int} (v : zIv a) (h0 : 0 ≤ s) (h1 : s < a 3) (hs : a (146 + 15 * s) = -1) (ht : ¬ 0 < a (148 + 15 * s) - 1) : a (148 + 15 * s) = 1 ∧ fLeak (fPay a s) s (148 + 15 * s) = 1 ∧ zIv (fLand (fTick (fLeak (fPay a s) s) s) s) ∧ fTick (fLeak (fPay a s) s) s (147 + 15 * s) = a (147 + 15 * s) ∧ (0 ≤ a (147 + 15 * s) ∧ a (147 + 15 * s) < a 2) ∧ fTick (fLeak (fPay a s) s) s (56 + 15 * a (147 + 15 * s)) = a (56 + 15 * a (147 + 15 * s)) ∧ -1 ≤ a (56 + 15 * a (147 + 15 * s)) ∧ a (56 + 15 * a (147 + 15 * s)) < a 0 ∧ (∀ k, k < 146 → fLand (fTick (fLeak (fPay a s) s) s) s k = a k) := by
  have h4 := (zIships v).2
  have h2 := (zIports v).2
  have hsea := zIsea v s h0 h1
  have hl : 0 < a (148 + 15 * s) := by
    by_cases c3 : 0 < a (148 + 15 * s)
    · exact c3
    · have := hsea.2.2 (by omega)
      omega
  have e8 : fLeak (fPay a s) s (148 + 15 * s) = a (148 + 15 * s) := by rw [fLeak_ne (by omega), fPay_ne (by omega) (by omega)]
  have to := hsea.2.1 hl
  have vp := zIv_pay v h0 h1
  have p3 : fPay a s 3 = a 3 := fPay_ne (by omega) (by omega)
  have vl := zIv_leak vp h0 (by omega)
  have l3 : fLeak (fPay a s) s 3 = a 3 := by rw [fLeak_ne (by omega), p3]
  refine ⟨by omega, by omega, zIv_land vl h0 (by omega) (by omega), ?_, to.2, ?_, (zIpn v _ to.2.1 to.2.2).1, (zIpn v _ to.2.1 to.2.2).2, fun k hk => ?_⟩
  · rw [fTick_ne (by omega), fLeak_ne (by omega), fPay_ne (by omega) (by omega)]
  · rw [fTick_ne (by omega), fLeak_ne (by omega), fPay_ne (by omega) (by omega)]
  · rw [fLand_ne (by omega) (by omega), fTick_ne (by omega), fLeak_ne (by omega), fPay_ne (by omega) (by omega)]
theorem zIv_go {a : Int → Int} {s : Int} (v : zIv a) (h0 : 0 ≤ s) (h1 : s < a 3) : zIv (fGo a s).1 := by
  have h4 := (zIships v).2
  have vp := zIv_pay v h0 h1
  have p3 : fPay a s 3 = a 3 := fPay_ne (by omega) (by omega)
  have vl := zIv_leak vp h0 (by omega)
  have l3 : fLeak (fPay a s) s 3 = a 3 := by rw [fLeak_ne (by omega), p3]
  have e8 : fLeak (fPay a s) s (148 + 15 * s) = a (148 + 15 * s) := by rw [fLeak_ne (by omega), fPay_ne (by omega) (by omega)]
  unfold fGo
  split
  · exact vl
  · rename_i hs
    split
    · exact zIv_tick vl h0 (by omega) (by omega)
    · rename_i ht
      obtain ⟨f1, f2, f3, f4, f5, f6, f7, f8, f9⟩ := fCome_f v h0 h1 (by omega) ht
      show zIv (fCome (fTick (fLeak (fPay a s) s) s) s)
      unfold fCome
      rw [f4, f6]
      split
      · exact f3
      · exact zIv_duty f3 h0 (by rw [f9 3 (by omega)]; exact h1) (by omega) (by rw [f9 0 (by omega)]; omega)
section X6
variable {d w : Nat} {h : zHp} {Q : zRs → Prop} {a nm : Int → Int}
theorem zPw_tick {s : Int} (v : zIv a) (P : zPw h w a nm) (h0 : 0 ≤ s) (h1 : s < a 3) (hs : 0 < a (148 + 15 * s) - 1) : zPw (sI h (w + 10) s (a (148 + 15 * s) - 1)) w (fTick a s) nm := by
  have h4 := (zIships v).2
  have kk := zWk15 P.2.1
  refine zPw_upd v P rfl rfl rfl (fun b hb _ => gI_sI_ne (fun e => by rw [e, kk] at hb; cases hb)) (fun k hk => fTick_ne (by unfold zStc at hk; omega)) ?_
  unfold fTick
  obtain ⟨p0, p1, p2, p3, p4, p5, p6, p7, p8, p9, p10, p11⟩ := P.2.2.1
  refine ⟨?_, ?_, ?_, ?_, ?_, ?_, fun n n0 n1 => ?_, fun p g p0 p1 g0 g1 => ?_, fun p q p0 p1 q0 q1 => ?_, fun t t0 t1 => ?_, fun t t0 t1 => ?_, fun t g t0 t1 g0 g1 => ?_⟩
  · (first | assumption | (simp (disch := omega) only [zU_ne, zU_eq, gI_sI_ne, gI_sI_eq, gI_sIA_ne, gI_sIA_eq] <;> first | assumption | omega) | (simp only [gI_sI_at, gI_sIA_at, zU, reduceIte] <;> (repeat' split) <;> first | assumption | omega))
  · (first | assumption | (simp (disch := omega) only [zU_ne, zU_eq, gI_sI_ne, gI_sI_eq, gI_sIA_ne, gI_sIA_eq] <;> first | assumption | omega) | (simp only [gI_sI_at, gI_sIA_at, zU, reduceIte] <;> (repeat' split) <;> first | assumption | omega))
  · (first | assumption | (simp (disch := omega) only [zU_ne, zU_eq, gI_sI_ne, gI_sI_eq, gI_sIA_ne, gI_sIA_eq] <;> first | assumption | omega) | (simp only [gI_sI_at, gI_sIA_at, zU, reduceIte] <;> (repeat' split) <;> first | assumption | omega))
  · (first | assumption | (simp (disch := omega) only [zU_ne, zU_eq, gI_sI_ne, gI_sI_eq, gI_sIA_ne, gI_sIA_eq] <;> first | assumption | omega) | (simp only [gI_sI_at, gI_sIA_at, zU, reduceIte] <;> (repeat' split) <;> first | assumption | omega))
  · (first | assumption | (simp (disch := omega) only [zU_ne, zU_eq, gI_sI_ne, gI_sI_eq, gI_sIA_ne, gI_sIA_eq] <;> first | assumption | omega) | (simp only [gI_sI_at, gI_sIA_at, zU, reduceIte] <;> (repeat' split) <;> first | assumption | omega))
  · (first | assumption | (simp (disch := omega) only [zU_ne, zU_eq, gI_sI_ne, gI_sI_eq, gI_sIA_ne, gI_sIA_eq] <;> first | assumption | omega) | (simp only [gI_sI_at, gI_sIA_at, zU, reduceIte] <;> (repeat' split) <;> first | assumption | omega))
  · have q9 := p6 n n0 n1
    (first | assumption | (simp (disch := omega) only [zU_ne, zU_eq, gI_sI_ne, gI_sI_eq, gI_sIA_ne, gI_sIA_eq] <;> first | assumption | omega) | (simp only [gI_sI_at, gI_sIA_at, zU, reduceIte] <;> (repeat' split) <;> first | assumption | omega))
  · have q9 := p7 p g p0 p1 g0 g1
    (first | assumption | (simp (disch := omega) only [zU_ne, zU_eq, gI_sI_ne, gI_sI_eq, gI_sIA_ne, gI_sIA_eq] <;> first | assumption | omega) | (simp only [gI_sI_at, gI_sIA_at, zU, reduceIte] <;> (repeat' split) <;> first | assumption | omega))
  · have q9 := p8 p q p0 p1 q0 q1
    (first | assumption | (simp (disch := omega) only [zU_ne, zU_eq, gI_sI_ne, gI_sI_eq, gI_sIA_ne, gI_sIA_eq] <;> first | assumption | omega) | (simp only [gI_sI_at, gI_sIA_at, zU, reduceIte] <;> (repeat' split) <;> first | assumption | omega))
  · obtain ⟨q9, q8, q7, q6⟩ := p9 t t0 t1
    refine ⟨?_, ?_, ?_, ?_⟩ <;> (first | assumption | (simp (disch := omega) only [zU_ne, zU_eq, gI_sI_ne, gI_sI_eq, gI_sIA_ne, gI_sIA_eq] <;> first | assumption | omega) | (simp only [gI_sI_at, gI_sIA_at, zU, reduceIte] <;> (repeat' split) <;> first | assumption | omega))
  · have t1 : t < a 3 := by simpa (disch := omega) only [zU_ne] using t1
    obtain ⟨q9, q8⟩ := p10 t t0 t1
    by_cases e : t = s
    · subst e
      have e1 : zU a (148 + 15 * t) (a (148 + 15 * t) - 1) (148 + 15 * t) = a (148 + 15 * t) - 1 := zU_eq
      rw [e1]
      simp (disch := omega) only [zU_ne, gI_sI_ne]
      exact ⟨fun _ => q9 (by omega), fun h => by omega⟩
    · simp (disch := omega) only [zU_ne, gI_sI_ne]
      exact ⟨q9, q8⟩
  · have q9 := p11 t g t0 t1 g0 g1
    (first | assumption | (simp (disch := omega) only [zU_ne, zU_eq, gI_sI_ne, gI_sI_eq, gI_sIA_ne, gI_sIA_eq] <;> first | assumption | omega) | (simp only [gI_sI_at, gI_sIA_at, zU, reduceIte] <;> (repeat' split) <;> first | assumption | omega))
theorem zPw_land {s : Int} (v : zIv a) (P : zPw h w a nm) (h0 : 0 ≤ s) (h1 : s < a 3) (hs : a (148 + 15 * s) = 1) : zPw (sI (sI h (w + 10) s 0) (w + 8) s (a (147 + 15 * s))) w (fLand (fTick a s) s) nm := by
  have h4 := (zIships v).2
  have kk := zWk15 P.2.1
  have kl := zWk13 P.2.1
  refine zPw_upd v P rfl rfl rfl (fun b hb _ => (gI_sI_ne (fun e => by rw [e, kl] at hb; cases hb)).trans (gI_sI_ne (fun e => by rw [e, kk] at hb; cases hb))) (fun k hk => by unfold zStc at hk; rw [fLand_ne (by omega) (by omega), fTick_ne (by omega)]) ?_
  obtain ⟨p0, p1, p2, p3, p4, p5, p6, p7, p8, p9, p10, p11⟩ := P.2.2.1
  have e1 : fTick a s (147 + 15 * s) = a (147 + 15 * s) := fTick_ne (by omega)
  unfold fLand
  rw [e1]
  unfold fTick
  rw [hs]
  refine ⟨?_, ?_, ?_, ?_, ?_, ?_, fun n n0 n1 => ?_, fun p g p0 p1 g0 g1 => ?_, fun p q p0 p1 q0 q1 => ?_, fun t t0 t1 => ?_, fun t t0 t1 => ?_, fun t g t0 t1 g0 g1 => ?_⟩
  · (first | assumption | (simp (disch := omega) only [zU_ne, zU_eq, gI_sI_ne, gI_sI_eq, gI_sIA_ne, gI_sIA_eq] <;> first | assumption | omega) | (simp only [gI_sI_at, gI_sIA_at, zU, reduceIte] <;> (repeat' split) <;> first | assumption | omega))
  · (first | assumption | (simp (disch := omega) only [zU_ne, zU_eq, gI_sI_ne, gI_sI_eq, gI_sIA_ne, gI_sIA_eq] <;> first | assumption | omega) | (simp only [gI_sI_at, gI_sIA_at, zU, reduceIte] <;> (repeat' split) <;> first | assumption | omega))
  · (first | assumption | (simp (disch := omega) only [zU_ne, zU_eq, gI_sI_ne, gI_sI_eq, gI_sIA_ne, gI_sIA_eq] <;> first | assumption | omega) | (simp only [gI_sI_at, gI_sIA_at, zU, reduceIte] <;> (repeat' split) <;> first | assumption | omega))
  · (first | assumption | (simp (disch := omega) only [zU_ne, zU_eq, gI_sI_ne, gI_sI_eq, gI_sIA_ne, gI_sIA_eq] <;> first | assumption | omega) | (simp only [gI_sI_at, gI_sIA_at, zU, reduceIte] <;> (repeat' split) <;> first | assumption | omega))
  · (first | assumption | (simp (disch := omega) only [zU_ne, zU_eq, gI_sI_ne, gI_sI_eq, gI_sIA_ne, gI_sIA_eq] <;> first | assumption | omega) | (simp only [gI_sI_at, gI_sIA_at, zU, reduceIte] <;> (repeat' split) <;> first | assumption | omega))
  · (first | assumption | (simp (disch := omega) only [zU_ne, zU_eq, gI_sI_ne, gI_sI_eq, gI_sIA_ne, gI_sIA_eq] <;> first | assumption | omega) | (simp only [gI_sI_at, gI_sIA_at, zU, reduceIte] <;> (repeat' split) <;> first | assumption | omega))
  · have q9 := p6 n n0 n1
    (first | assumption | (simp (disch := omega) only [zU_ne, zU_eq, gI_sI_ne, gI_sI_eq, gI_sIA_ne, gI_sIA_eq] <;> first | assumption | omega) | (simp only [gI_sI_at, gI_sIA_at, zU, reduceIte] <;> (repeat' split) <;> first | assumption | omega))
  · have q9 := p7 p g p0 p1 g0 g1
    (first | assumption | (simp (disch := omega) only [zU_ne, zU_eq, gI_sI_ne, gI_sI_eq, gI_sIA_ne, gI_sIA_eq] <;> first | assumption | omega) | (simp only [gI_sI_at, gI_sIA_at, zU, reduceIte] <;> (repeat' split) <;> first | assumption | omega))
  · have q9 := p8 p q p0 p1 q0 q1
    (first | assumption | (simp (disch := omega) only [zU_ne, zU_eq, gI_sI_ne, gI_sI_eq, gI_sIA_ne, gI_sIA_eq] <;> first | assumption | omega) | (simp only [gI_sI_at, gI_sIA_at, zU, reduceIte] <;> (repeat' split) <;> first | assumption | omega))
  · obtain ⟨q9, q8, q7, q6⟩ := p9 t t0 t1
    refine ⟨?_, ?_, ?_, ?_⟩ <;> (first | assumption | (simp (disch := omega) only [zU_ne, zU_eq, gI_sI_ne, gI_sI_eq, gI_sIA_ne, gI_sIA_eq] <;> first | assumption | omega) | (simp only [gI_sI_at, gI_sIA_at, zU, reduceIte] <;> (repeat' split) <;> first | assumption | omega))
  · have t1 : t < a 3 := by simpa (disch := omega) only [zU_ne] using t1
    obtain ⟨q9, q8⟩ := p10 t t0 t1
    by_cases e : t = s
    · subst e
      simp (disch := omega) only [zU_ne, zU_eq, gI_sI_ne, gI_sI_eq]
      exact ⟨fun h => by omega, fun _ => trivial⟩
    · simp (disch := omega) only [zU_ne, gI_sI_ne, gI_sI_eq]
      exact ⟨q9, q8⟩
  · have q9 := p11 t g t0 t1 g0 g1
    (first | assumption | (simp (disch := omega) only [zU_ne, zU_eq, gI_sI_ne, gI_sI_eq, gI_sIA_ne, gI_sIA_eq] <;> first | assumption | omega) | (simp only [gI_sI_at, gI_sIA_at, zU, reduceIte] <;> (repeat' split) <;> first | assumption | omega))
theorem kX_go {s : Int} (v : zIv a) (P : zPw h w a nm) (h0 : 0 ≤ s) (h1 : s < a 3) (hQ : ∀ h', zPw h' w (fGo a s).1 nm → zSw w h h' → Q (zRv (zi (fGo a s).2) h')) : zCm mX5_goes_2 d [zr (some w), zi s] h Q := by
  have hw := P.1
  have h4 := (zIships v).2
  have hsea := zIsea v s h0 h1
  have vp := zIv_pay v h0 h1
  have p3 : fPay a s 3 = a 3 := fPay_ne (by omega) (by omega)
  have p8 : fPay a s (148 + 15 * s) = a (148 + 15 * s) := fPay_ne (by omega) (by omega)
  have vl := zIv_leak vp h0 (by omega)
  have l3 : fLeak (fPay a s) s 3 = a 3 := by rw [fLeak_ne (by omega), p3]
  have e8 : fLeak (fPay a s) s (148 + 15 * s) = a (148 + 15 * s) := by rw [fLeak_ne (by omega), p8]
  have W0 := P.2.1
  by_cases c1 : 0 < a (148 + 15 * s)
  · have hs := (hsea.2.1 c1).1
    unfold fGo at hQ
    rw [if_neg (by omega)] at hQ
    simp (disch := (first | (simp only [gK_sI, gK_sJ, gK_sR, gK_sIA, gK_sJA, gR_sI, gR_sJ, gR_sIA, Nat.reduceLeDiff, Nat.reduceEqDiff, Nat.reduceLT, Int.reduceLE, Int.reduceLT, Int.reduceEq, zWt_i, zWt_l, zWt_r, zWt_n, W0, zWkk W0, zWr13 W0, zWk13 W0, zWr14 W0, zWk14 W0, zWr15 W0, zWk15 W0, zWr16 W0, zWk16 W0, zWr18 W0, zWk18 W0] <;> omega) | omega | fail)) only [if_pos, if_neg, wI_id, zLc_lt, zLc_gt, zLc_eq, zLc_le, zLc_ge, Int.reduceEq, Int.reduceLE, Int.reduceLT, Int.reduceNeg, Int.reduceAdd, Int.reduceMul, Int.reduceSub, not_true_eq_false, not_false_eq_true, reduceIte, zPo_v, zPo_n, zPo_t, zKl_i, zKl_r, zKl_n, zKl_l, gK_sI, gK_sJ, gK_sR, gK_sIA, gK_sJA, gR_sI, gR_sJ, gJ_sI, gI_sJ, gI_sR, gJ_sR, gR_sIA, gJ_sIA, Nat.reduceLeDiff, Nat.reduceEqDiff, eX5_goes_2_0, eX5_goes_2_1, eX5_goes_2_2, eX5_goes_2_5, eX5_goes_2_8, eX5_goes_2_9, eX5_goes_2_10, eX5_goes_2_13, eX5_goes_2_14, eX5_goes_2_15, eX5_goes_2_18, eX5_goes_2_19, eX5_goes_2_20, eX5_goes_2_23, eX5_goes_2_26, eX5_goes_2_27, eX5_goes_2_28, eX5_goes_2_29, eX5_goes_2_32, eX5_goes_2_33, eX5_goes_2_34, eX5_goes_2_35, eX5_goes_2_36, eX5_goes_2_37, eX5_goes_2_38, eX5_goes_2_39, eX5_goes_2_42, eX5_goes_2_43, eX5_goes_2_44, eX5_goes_2_47, eX5_goes_2_48, eX5_goes_2_49, eX5_goes_2_50, eX5_goes_2_53, eX5_goes_2_54, eX5_goes_2_55, eX5_goes_2_58, eX5_goes_2_59, eX5_goes_2_60, eX5_goes_2_61, eX5_goes_2_62, eX5_goes_2_65, eX5_goes_2_66, eX5_goes_2_69, eX5_goes_2_70, eX5_goes_2_71, eX5_goes_2_72, eX5_goes_2_75, eX5_goes_2_76, eX5_goes_2_77, eX5_goes_2_80, eX5_goes_2_81, eX5_goes_2_82, eX5_goes_2_85, eX5_goes_2_86, eX5_goes_2_89, eX5_goes_2_90, eX5_goes_2_91, eX5_goes_2_92, eX5_goes_2_95, eX5_goes_2_96, eX5_goes_2_97, eX5_goes_2_98, eX5_goes_2_101, eX5_goes_2_102, eX5_goes_2_103, eX5_goes_2_106, eX5_goes_2_107, eX5_goes_2_108, eX5_goes_2_111, eX5_goes_2_112, eX5_goes_2_115, eX5_goes_2_116, eX5_goes_2_117, eX5_goes_2_120, eX5_goes_2_121, eX5_goes_2_122, eX5_goes_2_123, eX5_goes_2_124, eX5_goes_2_125, eX5_goes_2_126, eX5_goes_2_127, eX5_goes_2_130, eX5_goes_2_131, eX5_goes_2_132, eX5_goes_2_133, eX5_goes_2_134, eX5_goes_2_135, eX5_goes_2_136, eX5_goes_2_137, eX5_goes_2_in, cX_isAtSea P, c1]
    refine kX_pays v P h0 h1 hs (fun h1' P1 S1 => ?_)
    have W1 := P1.2.1
    simp (disch := (first | (simp only [gK_sI, gK_sJ, gK_sR, gK_sIA, gK_sJA, gR_sI, gR_sJ, gR_sIA, Nat.reduceLeDiff, Nat.reduceEqDiff, Nat.reduceLT, Int.reduceLE, Int.reduceLT, Int.reduceEq, zWt_i, zWt_l, zWt_r, zWt_n, W1, zWkk W1, zWr13 W1, zWk13 W1, zWr14 W1, zWk14 W1, zWr15 W1, zWk15 W1, zWr16 W1, zWk16 W1, zWr18 W1, zWk18 W1] <;> omega) | omega | fail)) only [if_pos, if_neg, wI_id, zLc_lt, zLc_gt, zLc_eq, zLc_le, zLc_ge, Int.reduceEq, Int.reduceLE, Int.reduceLT, Int.reduceNeg, Int.reduceAdd, Int.reduceMul, Int.reduceSub, not_true_eq_false, not_false_eq_true, reduceIte, zPo_v, zPo_n, zPo_t, zKl_i, zKl_r, zKl_n, zKl_l, gK_sI, gK_sJ, gK_sR, gK_sIA, gK_sJA, gR_sI, gR_sJ, gJ_sI, gI_sJ, gI_sR, gJ_sR, gR_sIA, gJ_sIA, Nat.reduceLeDiff, Nat.reduceEqDiff, eX5_goes_2_0, eX5_goes_2_1, eX5_goes_2_2, eX5_goes_2_5, eX5_goes_2_8, eX5_goes_2_9, eX5_goes_2_10, eX5_goes_2_13, eX5_goes_2_14, eX5_goes_2_15, eX5_goes_2_18, eX5_goes_2_19, eX5_goes_2_20, eX5_goes_2_23, eX5_goes_2_26, eX5_goes_2_27, eX5_goes_2_28, eX5_goes_2_29, eX5_goes_2_32, eX5_goes_2_33, eX5_goes_2_34, eX5_goes_2_35, eX5_goes_2_36, eX5_goes_2_37, eX5_goes_2_38, eX5_goes_2_39, eX5_goes_2_42, eX5_goes_2_43, eX5_goes_2_44, eX5_goes_2_47, eX5_goes_2_48, eX5_goes_2_49, eX5_goes_2_50, eX5_goes_2_53, eX5_goes_2_54, eX5_goes_2_55, eX5_goes_2_58, eX5_goes_2_59, eX5_goes_2_60, eX5_goes_2_61, eX5_goes_2_62, eX5_goes_2_65, eX5_goes_2_66, eX5_goes_2_69, eX5_goes_2_70, eX5_goes_2_71, eX5_goes_2_72, eX5_goes_2_75, eX5_goes_2_76, eX5_goes_2_77, eX5_goes_2_80, eX5_goes_2_81, eX5_goes_2_82, eX5_goes_2_85, eX5_goes_2_86, eX5_goes_2_89, eX5_goes_2_90, eX5_goes_2_91, eX5_goes_2_92, eX5_goes_2_95, eX5_goes_2_96, eX5_goes_2_97, eX5_goes_2_98, eX5_goes_2_101, eX5_goes_2_102, eX5_goes_2_103, eX5_goes_2_106, eX5_goes_2_107, eX5_goes_2_108, eX5_goes_2_111, eX5_goes_2_112, eX5_goes_2_115, eX5_goes_2_116, eX5_goes_2_117, eX5_goes_2_120, eX5_goes_2_121, eX5_goes_2_122, eX5_goes_2_123, eX5_goes_2_124, eX5_goes_2_125, eX5_goes_2_126, eX5_goes_2_127, eX5_goes_2_130, eX5_goes_2_131, eX5_goes_2_132, eX5_goes_2_133, eX5_goes_2_134, eX5_goes_2_135, eX5_goes_2_136, eX5_goes_2_137, eX5_goes_2_in]
    refine kX_leaks vp P1 h0 (by omega) (fun h2 P2 S2 => ?_)
    have W2 := P2.2.1
    have S12 := zSw_tr S1 S2
    obtain ⟨q9, -, -, -⟩ := P2.2.2.1.2.2.2.2.2.2.2.2.2.1 s h0 (by omega)
    rw [e8] at q9
    have hc2 := cX_isAtSea (d := d) (Q := zPo mX5_goes_2 d 20 23 [some (Sum.inr (Sum.inr (some w))), some (Sum.inl s), none, none] [] Q) P2 h0 (by omega)
    rw [e8] at hc2
    by_cases c2 : 0 < a (148 + 15 * s) - 1
    · rw [if_pos c2] at hQ
      have Pt := zPw_tick vl P2 h0 (by omega) (by rw [e8]; exact c2)
      rw [e8] at Pt
      simp (disch := (first | (simp only [gK_sI, gK_sJ, gK_sR, gK_sIA, gK_sJA, gR_sI, gR_sJ, gR_sIA, Nat.reduceLeDiff, Nat.reduceEqDiff, Nat.reduceLT, Int.reduceLE, Int.reduceLT, Int.reduceEq, zWt_i, zWt_l, zWt_r, zWt_n, W2, zWkk W2, zWr13 W2, zWk13 W2, zWr14 W2, zWk14 W2, zWr15 W2, zWk15 W2, zWr16 W2, zWk16 W2, zWr18 W2, zWk18 W2] <;> omega) | omega | fail)) only [if_pos, if_neg, wI_id, zLc_lt, zLc_gt, zLc_eq, zLc_le, zLc_ge, Int.reduceEq, Int.reduceLE, Int.reduceLT, Int.reduceNeg, Int.reduceAdd, Int.reduceMul, Int.reduceSub, not_true_eq_false, not_false_eq_true, reduceIte, zPo_v, zPo_n, zPo_t, zKl_i, zKl_r, zKl_n, zKl_l, gK_sI, gK_sJ, gK_sR, gK_sIA, gK_sJA, gR_sI, gR_sJ, gJ_sI, gI_sJ, gI_sR, gJ_sR, gR_sIA, gJ_sIA, Nat.reduceLeDiff, Nat.reduceEqDiff, eX5_goes_2_0, eX5_goes_2_1, eX5_goes_2_2, eX5_goes_2_5, eX5_goes_2_8, eX5_goes_2_9, eX5_goes_2_10, eX5_goes_2_13, eX5_goes_2_14, eX5_goes_2_15, eX5_goes_2_18, eX5_goes_2_19, eX5_goes_2_20, eX5_goes_2_23, eX5_goes_2_26, eX5_goes_2_27, eX5_goes_2_28, eX5_goes_2_29, eX5_goes_2_32, eX5_goes_2_33, eX5_goes_2_34, eX5_goes_2_35, eX5_goes_2_36, eX5_goes_2_37, eX5_goes_2_38, eX5_goes_2_39, eX5_goes_2_42, eX5_goes_2_43, eX5_goes_2_44, eX5_goes_2_47, eX5_goes_2_48, eX5_goes_2_49, eX5_goes_2_50, eX5_goes_2_53, eX5_goes_2_54, eX5_goes_2_55, eX5_goes_2_58, eX5_goes_2_59, eX5_goes_2_60, eX5_goes_2_61, eX5_goes_2_62, eX5_goes_2_65, eX5_goes_2_66, eX5_goes_2_69, eX5_goes_2_70, eX5_goes_2_71, eX5_goes_2_72, eX5_goes_2_75, eX5_goes_2_76, eX5_goes_2_77, eX5_goes_2_80, eX5_goes_2_81, eX5_goes_2_82, eX5_goes_2_85, eX5_goes_2_86, eX5_goes_2_89, eX5_goes_2_90, eX5_goes_2_91, eX5_goes_2_92, eX5_goes_2_95, eX5_goes_2_96, eX5_goes_2_97, eX5_goes_2_98, eX5_goes_2_101, eX5_goes_2_102, eX5_goes_2_103, eX5_goes_2_106, eX5_goes_2_107, eX5_goes_2_108, eX5_goes_2_111, eX5_goes_2_112, eX5_goes_2_115, eX5_goes_2_116, eX5_goes_2_117, eX5_goes_2_120, eX5_goes_2_121, eX5_goes_2_122, eX5_goes_2_123, eX5_goes_2_124, eX5_goes_2_125, eX5_goes_2_126, eX5_goes_2_127, eX5_goes_2_130, eX5_goes_2_131, eX5_goes_2_132, eX5_goes_2_133, eX5_goes_2_134, eX5_goes_2_135, eX5_goes_2_136, eX5_goes_2_137, eX5_goes_2_in, W2, zWkk W2, zWr13 W2, zWk13 W2, zWr14 W2, zWk14 W2, zWr15 W2, zWk15 W2, zWr16 W2, zWk16 W2, zWr18 W2, zWk18 W2, hc2, c1, c2, q9, gI_sI_eq, zU_eq]
      exact hQ _ Pt (zSw_sI S12 (by omega) (by omega))
    · rw [if_neg c2] at hQ
      obtain ⟨f1, f2, f3, f4, f5, f6, f7, f8, f9⟩ := fCome_f v h0 h1 hs c2
      have Pl := zPw_land vl P2 h0 (by omega) f2
      have e7 : fLeak (fPay a s) s (147 + 15 * s) = a (147 + 15 * s) := by rw [fLeak_ne (by omega), fPay_ne (by omega) (by omega)]
      rw [e7] at Pl
      have q7 := (P2.2.2.1.2.2.2.2.2.2.2.2.2.2.1 s h0 (by omega)).1 (by omega)
      rw [e7] at q7
      have Sl := zSw_sI (zSw_sI S12 (b := w + 10) (j := s) (v := 0) (by omega) (by omega)) (b := w + 8) (j := s) (v := a (147 + 15 * s)) (by omega) (by omega)
      obtain ⟨N, n1, n2, n3⟩ := Pl.2.2.2.2.2.1
      obtain ⟨p, r1, r2, r3, -⟩ := n3 (a (147 + 15 * s)) f5.1 (by rw [f9 2 (by omega)]; exact f5.2)
      have n1 : gR h2 w 8 = some N := n1
      have n2 : gK h2 N = (8, 6) := n2
      have r1 : gR h2 N (a (147 + 15 * s)) = some p := r1
      have r2 : gK h2 p = (0, 10) := r2
      have h2p := (zIports v).2
      have f56 : fLand (fTick (fLeak (fPay a s) s) s) s (56 + 15 * a (147 + 15 * s)) = a (56 + 15 * a (147 + 15 * s)) := f9 _ (by omega)
      rw [f56] at r3
      have eL : zU (gI (sI h2 (w + 10) s 0) (w + 8)) s (a (147 + 15 * s)) s = a (147 + 15 * s) := zU_eq
      unfold fCome at hQ
      rw [f4, f6] at hQ
      simp (disch := (first | (simp only [gK_sI, gK_sJ, gK_sR, gK_sIA, gK_sJA, gR_sI, gR_sJ, gR_sIA, Nat.reduceLeDiff, Nat.reduceEqDiff, Nat.reduceLT, Int.reduceLE, Int.reduceLT, Int.reduceEq, zWt_i, zWt_l, zWt_r, zWt_n, W2, zWkk W2, zWr13 W2, zWk13 W2, zWr14 W2, zWk14 W2, zWr15 W2, zWk15 W2, zWr16 W2, zWk16 W2, zWr18 W2, zWk18 W2, n2, r2] <;> omega) | omega | fail)) only [if_pos, if_neg, wI_id, zLc_lt, zLc_gt, zLc_eq, zLc_le, zLc_ge, Int.reduceEq, Int.reduceLE, Int.reduceLT, Int.reduceNeg, Int.reduceAdd, Int.reduceMul, Int.reduceSub, not_true_eq_false, not_false_eq_true, reduceIte, zPo_v, zPo_n, zPo_t, zKl_i, zKl_r, zKl_n, zKl_l, gK_sI, gK_sJ, gK_sR, gK_sIA, gK_sJA, gR_sI, gR_sJ, gJ_sI, gI_sJ, gI_sR, gJ_sR, gR_sIA, gJ_sIA, Nat.reduceLeDiff, Nat.reduceEqDiff, eX5_goes_2_0, eX5_goes_2_1, eX5_goes_2_2, eX5_goes_2_5, eX5_goes_2_8, eX5_goes_2_9, eX5_goes_2_10, eX5_goes_2_13, eX5_goes_2_14, eX5_goes_2_15, eX5_goes_2_18, eX5_goes_2_19, eX5_goes_2_20, eX5_goes_2_23, eX5_goes_2_26, eX5_goes_2_27, eX5_goes_2_28, eX5_goes_2_29, eX5_goes_2_32, eX5_goes_2_33, eX5_goes_2_34, eX5_goes_2_35, eX5_goes_2_36, eX5_goes_2_37, eX5_goes_2_38, eX5_goes_2_39, eX5_goes_2_42, eX5_goes_2_43, eX5_goes_2_44, eX5_goes_2_47, eX5_goes_2_48, eX5_goes_2_49, eX5_goes_2_50, eX5_goes_2_53, eX5_goes_2_54, eX5_goes_2_55, eX5_goes_2_58, eX5_goes_2_59, eX5_goes_2_60, eX5_goes_2_61, eX5_goes_2_62, eX5_goes_2_65, eX5_goes_2_66, eX5_goes_2_69, eX5_goes_2_70, eX5_goes_2_71, eX5_goes_2_72, eX5_goes_2_75, eX5_goes_2_76, eX5_goes_2_77, eX5_goes_2_80, eX5_goes_2_81, eX5_goes_2_82, eX5_goes_2_85, eX5_goes_2_86, eX5_goes_2_89, eX5_goes_2_90, eX5_goes_2_91, eX5_goes_2_92, eX5_goes_2_95, eX5_goes_2_96, eX5_goes_2_97, eX5_goes_2_98, eX5_goes_2_101, eX5_goes_2_102, eX5_goes_2_103, eX5_goes_2_106, eX5_goes_2_107, eX5_goes_2_108, eX5_goes_2_111, eX5_goes_2_112, eX5_goes_2_115, eX5_goes_2_116, eX5_goes_2_117, eX5_goes_2_120, eX5_goes_2_121, eX5_goes_2_122, eX5_goes_2_123, eX5_goes_2_124, eX5_goes_2_125, eX5_goes_2_126, eX5_goes_2_127, eX5_goes_2_130, eX5_goes_2_131, eX5_goes_2_132, eX5_goes_2_133, eX5_goes_2_134, eX5_goes_2_135, eX5_goes_2_136, eX5_goes_2_137, eX5_goes_2_in, W2, zWkk W2, zWr13 W2, zWk13 W2, zWr14 W2, zWk14 W2, zWr15 W2, zWk15 W2, zWr16 W2, zWk16 W2, zWr18 W2, zWk18 W2, hc2, c1, q9, f1, gI_sI_eq, gI_sI_ne, zU_eq, q7, n1, n2, r1, r2]
      generalize hh3 : sI (sI h2 (w + 10) s 0) (w + 8) s (a (147 + 15 * s)) = h3 at *
      generalize hn9 : a (56 + 15 * a (147 + 15 * s)) = n9 at *
      have W3 := Pl.2.1
      by_cases k1 : n9 = -1
      · rw [if_pos (Or.inl k1)] at hQ
        simp (disch := (first | (simp only [gK_sI, gK_sJ, gK_sR, gK_sIA, gK_sJA, gR_sI, gR_sJ, gR_sIA, Nat.reduceLeDiff, Nat.reduceEqDiff, Nat.reduceLT, Int.reduceLE, Int.reduceLT, Int.reduceEq, zWt_i, zWt_l, zWt_r, zWt_n, W3, zWkk W3, zWr13 W3, zWk13 W3, zWr14 W3, zWk14 W3, zWr15 W3, zWk15 W3, zWr16 W3, zWk16 W3, zWr18 W3, zWk18 W3] <;> omega) | omega | fail)) only [if_pos, if_neg, wI_id, zLc_lt, zLc_gt, zLc_eq, zLc_le, zLc_ge, Int.reduceEq, Int.reduceLE, Int.reduceLT, Int.reduceNeg, Int.reduceAdd, Int.reduceMul, Int.reduceSub, not_true_eq_false, not_false_eq_true, reduceIte, zPo_v, zPo_n, zPo_t, zKl_i, zKl_r, zKl_n, zKl_l, gK_sI, gK_sJ, gK_sR, gK_sIA, gK_sJA, gR_sI, gR_sJ, gJ_sI, gI_sJ, gI_sR, gJ_sR, gR_sIA, gJ_sIA, Nat.reduceLeDiff, Nat.reduceEqDiff, eX5_goes_2_0, eX5_goes_2_1, eX5_goes_2_2, eX5_goes_2_5, eX5_goes_2_8, eX5_goes_2_9, eX5_goes_2_10, eX5_goes_2_13, eX5_goes_2_14, eX5_goes_2_15, eX5_goes_2_18, eX5_goes_2_19, eX5_goes_2_20, eX5_goes_2_23, eX5_goes_2_26, eX5_goes_2_27, eX5_goes_2_28, eX5_goes_2_29, eX5_goes_2_32, eX5_goes_2_33, eX5_goes_2_34, eX5_goes_2_35, eX5_goes_2_36, eX5_goes_2_37, eX5_goes_2_38, eX5_goes_2_39, eX5_goes_2_42, eX5_goes_2_43, eX5_goes_2_44, eX5_goes_2_47, eX5_goes_2_48, eX5_goes_2_49, eX5_goes_2_50, eX5_goes_2_53, eX5_goes_2_54, eX5_goes_2_55, eX5_goes_2_58, eX5_goes_2_59, eX5_goes_2_60, eX5_goes_2_61, eX5_goes_2_62, eX5_goes_2_65, eX5_goes_2_66, eX5_goes_2_69, eX5_goes_2_70, eX5_goes_2_71, eX5_goes_2_72, eX5_goes_2_75, eX5_goes_2_76, eX5_goes_2_77, eX5_goes_2_80, eX5_goes_2_81, eX5_goes_2_82, eX5_goes_2_85, eX5_goes_2_86, eX5_goes_2_89, eX5_goes_2_90, eX5_goes_2_91, eX5_goes_2_92, eX5_goes_2_95, eX5_goes_2_96, eX5_goes_2_97, eX5_goes_2_98, eX5_goes_2_101, eX5_goes_2_102, eX5_goes_2_103, eX5_goes_2_106, eX5_goes_2_107, eX5_goes_2_108, eX5_goes_2_111, eX5_goes_2_112, eX5_goes_2_115, eX5_goes_2_116, eX5_goes_2_117, eX5_goes_2_120, eX5_goes_2_121, eX5_goes_2_122, eX5_goes_2_123, eX5_goes_2_124, eX5_goes_2_125, eX5_goes_2_126, eX5_goes_2_127, eX5_goes_2_130, eX5_goes_2_131, eX5_goes_2_132, eX5_goes_2_133, eX5_goes_2_134, eX5_goes_2_135, eX5_goes_2_136, eX5_goes_2_137, eX5_goes_2_in, r3]
        exact hQ _ Pl Sl
      · have b3 : fLand (fTick (fLeak (fPay a s) s) s) s 3 = a 3 := f9 3 (by omega)
        have b0 : fLand (fTick (fLeak (fPay a s) s) s) s 0 = a 0 := f9 0 (by omega)
        simp (disch := (first | (simp only [gK_sI, gK_sJ, gK_sR, gK_sIA, gK_sJA, gR_sI, gR_sJ, gR_sIA, Nat.reduceLeDiff, Nat.reduceEqDiff, Nat.reduceLT, Int.reduceLE, Int.reduceLT, Int.reduceEq, zWt_i, zWt_l, zWt_r, zWt_n, W3, zWkk W3, zWr13 W3, zWk13 W3, zWr14 W3, zWk14 W3, zWr15 W3, zWk15 W3, zWr16 W3, zWk16 W3, zWr18 W3, zWk18 W3] <;> omega) | omega | fail)) only [if_pos, if_neg, wI_id, zLc_lt, zLc_gt, zLc_eq, zLc_le, zLc_ge, Int.reduceEq, Int.reduceLE, Int.reduceLT, Int.reduceNeg, Int.reduceAdd, Int.reduceMul, Int.reduceSub, not_true_eq_false, not_false_eq_true, reduceIte, zPo_v, zPo_n, zPo_t, zKl_i, zKl_r, zKl_n, zKl_l, gK_sI, gK_sJ, gK_sR, gK_sIA, gK_sJA, gR_sI, gR_sJ, gJ_sI, gI_sJ, gI_sR, gJ_sR, gR_sIA, gJ_sIA, Nat.reduceLeDiff, Nat.reduceEqDiff, eX5_goes_2_0, eX5_goes_2_1, eX5_goes_2_2, eX5_goes_2_5, eX5_goes_2_8, eX5_goes_2_9, eX5_goes_2_10, eX5_goes_2_13, eX5_goes_2_14, eX5_goes_2_15, eX5_goes_2_18, eX5_goes_2_19, eX5_goes_2_20, eX5_goes_2_23, eX5_goes_2_26, eX5_goes_2_27, eX5_goes_2_28, eX5_goes_2_29, eX5_goes_2_32, eX5_goes_2_33, eX5_goes_2_34, eX5_goes_2_35, eX5_goes_2_36, eX5_goes_2_37, eX5_goes_2_38, eX5_goes_2_39, eX5_goes_2_42, eX5_goes_2_43, eX5_goes_2_44, eX5_goes_2_47, eX5_goes_2_48, eX5_goes_2_49, eX5_goes_2_50, eX5_goes_2_53, eX5_goes_2_54, eX5_goes_2_55, eX5_goes_2_58, eX5_goes_2_59, eX5_goes_2_60, eX5_goes_2_61, eX5_goes_2_62, eX5_goes_2_65, eX5_goes_2_66, eX5_goes_2_69, eX5_goes_2_70, eX5_goes_2_71, eX5_goes_2_72, eX5_goes_2_75, eX5_goes_2_76, eX5_goes_2_77, eX5_goes_2_80, eX5_goes_2_81, eX5_goes_2_82, eX5_goes_2_85, eX5_goes_2_86, eX5_goes_2_89, eX5_goes_2_90, eX5_goes_2_91, eX5_goes_2_92, eX5_goes_2_95, eX5_goes_2_96, eX5_goes_2_97, eX5_goes_2_98, eX5_goes_2_101, eX5_goes_2_102, eX5_goes_2_103, eX5_goes_2_106, eX5_goes_2_107, eX5_goes_2_108, eX5_goes_2_111, eX5_goes_2_112, eX5_goes_2_115, eX5_goes_2_116, eX5_goes_2_117, eX5_goes_2_120, eX5_goes_2_121, eX5_goes_2_122, eX5_goes_2_123, eX5_goes_2_124, eX5_goes_2_125, eX5_goes_2_126, eX5_goes_2_127, eX5_goes_2_130, eX5_goes_2_131, eX5_goes_2_132, eX5_goes_2_133, eX5_goes_2_134, eX5_goes_2_135, eX5_goes_2_136, eX5_goes_2_137, eX5_goes_2_in, r3]
        generalize hb9 : fLand (fTick (fLeak (fPay a s) s) s) s = b at *
        refine kX_ruled f3 Pl h0 (by omega) (fun h4' P4 S4 => ?_)
        have W4 := P4.2.1
        have S5 := zSw_tr Sl S4
        by_cases k2 : fFl b s = n9
        · rw [if_pos (Or.inr k2)] at hQ
          simp (disch := (first | (simp only [gK_sI, gK_sJ, gK_sR, gK_sIA, gK_sJA, gR_sI, gR_sJ, gR_sIA, Nat.reduceLeDiff, Nat.reduceEqDiff, Nat.reduceLT, Int.reduceLE, Int.reduceLT, Int.reduceEq, zWt_i, zWt_l, zWt_r, zWt_n, W4, zWkk W4, zWr13 W4, zWk13 W4, zWr14 W4, zWk14 W4, zWr15 W4, zWk15 W4, zWr16 W4, zWk16 W4, zWr18 W4, zWk18 W4] <;> omega) | omega | fail)) only [if_pos, if_neg, wI_id, zLc_lt, zLc_gt, zLc_eq, zLc_le, zLc_ge, Int.reduceEq, Int.reduceLE, Int.reduceLT, Int.reduceNeg, Int.reduceAdd, Int.reduceMul, Int.reduceSub, not_true_eq_false, not_false_eq_true, reduceIte, zPo_v, zPo_n, zPo_t, zKl_i, zKl_r, zKl_n, zKl_l, gK_sI, gK_sJ, gK_sR, gK_sIA, gK_sJA, gR_sI, gR_sJ, gJ_sI, gI_sJ, gI_sR, gJ_sR, gR_sIA, gJ_sIA, Nat.reduceLeDiff, Nat.reduceEqDiff, eX5_goes_2_0, eX5_goes_2_1, eX5_goes_2_2, eX5_goes_2_5, eX5_goes_2_8, eX5_goes_2_9, eX5_goes_2_10, eX5_goes_2_13, eX5_goes_2_14, eX5_goes_2_15, eX5_goes_2_18, eX5_goes_2_19, eX5_goes_2_20, eX5_goes_2_23, eX5_goes_2_26, eX5_goes_2_27, eX5_goes_2_28, eX5_goes_2_29, eX5_goes_2_32, eX5_goes_2_33, eX5_goes_2_34, eX5_goes_2_35, eX5_goes_2_36, eX5_goes_2_37, eX5_goes_2_38, eX5_goes_2_39, eX5_goes_2_42, eX5_goes_2_43, eX5_goes_2_44, eX5_goes_2_47, eX5_goes_2_48, eX5_goes_2_49, eX5_goes_2_50, eX5_goes_2_53, eX5_goes_2_54, eX5_goes_2_55, eX5_goes_2_58, eX5_goes_2_59, eX5_goes_2_60, eX5_goes_2_61, eX5_goes_2_62, eX5_goes_2_65, eX5_goes_2_66, eX5_goes_2_69, eX5_goes_2_70, eX5_goes_2_71, eX5_goes_2_72, eX5_goes_2_75, eX5_goes_2_76, eX5_goes_2_77, eX5_goes_2_80, eX5_goes_2_81, eX5_goes_2_82, eX5_goes_2_85, eX5_goes_2_86, eX5_goes_2_89, eX5_goes_2_90, eX5_goes_2_91, eX5_goes_2_92, eX5_goes_2_95, eX5_goes_2_96, eX5_goes_2_97, eX5_goes_2_98, eX5_goes_2_101, eX5_goes_2_102, eX5_goes_2_103, eX5_goes_2_106, eX5_goes_2_107, eX5_goes_2_108, eX5_goes_2_111, eX5_goes_2_112, eX5_goes_2_115, eX5_goes_2_116, eX5_goes_2_117, eX5_goes_2_120, eX5_goes_2_121, eX5_goes_2_122, eX5_goes_2_123, eX5_goes_2_124, eX5_goes_2_125, eX5_goes_2_126, eX5_goes_2_127, eX5_goes_2_130, eX5_goes_2_131, eX5_goes_2_132, eX5_goes_2_133, eX5_goes_2_134, eX5_goes_2_135, eX5_goes_2_136, eX5_goes_2_137, eX5_goes_2_in, k2]
          exact hQ _ P4 S5
        · rw [if_neg (by omega)] at hQ
          have hd := fDue_b f3 h0 (by rw [b3]; exact h1) (n := n9) (by omega) (by omega)
          have hc := zIcoin f3 s h0 (by rw [b3]; exact h1)
          have h6 := (zIgd v).1.2
          have hb := fTons_b (zLd_iv f3 h0 (by omega))
          obtain ⟨N2, m1, m2, m3⟩ := P4.2.2.2.1
          obtain ⟨p2, t1, t2, t3, t4, t5, -⟩ := m3 n9 (by omega) (by omega)
          obtain ⟨-, u1, -, u3⟩ := P4.2.2.1.2.2.2.2.2.2.2.2.2.1 s h0 (by omega)
          have Pc := zPw_coin (x := b (150 + 15 * s) - fDue b s n9) f3 P4 h0 (by omega)
          have vc : zIv (zU b (150 + 15 * s) (b (150 + 15 * s) - fDue b s n9)) := zIv_money f3 (fun k hk => zU_ne (by omega)) (fun t i t0 t1 i0 i1 i2 i3 i4 => zU_ne (by omega)) (fun t t0 t1 => by
            have hct := zIcoin f3 t t0 t1
            unfold zU
            split <;> omega)
          have Pd := zPw_dut (x := wI (b (152 + 15 * s) + fDue b s n9)) vc Pc h0 (by omega)
          have hQ := hQ _ Pd (zSw_sI (zSw_sI S5 (by omega) (by omega)) (by omega) (by omega))
          have ed : fDue b s n9 = if b (9 + 4 * n9) * fTons (fLd b s) < b (150 + 15 * s) then b (9 + 4 * n9) * fTons (fLd b s) else b (150 + 15 * s) := by
            unfold fDue
            rw [Int.min_def]
            split <;> split <;> omega
          generalize hdue : fDue b s n9 = due at *
          simp (disch := (first | (simp only [gK_sI, gK_sJ, gK_sR, gK_sIA, gK_sJA, gR_sI, gR_sJ, gR_sIA, Nat.reduceLeDiff, Nat.reduceEqDiff, Nat.reduceLT, Int.reduceLE, Int.reduceLT, Int.reduceEq, zWt_i, zWt_l, zWt_r, zWt_n, W4, zWkk W4, zWr13 W4, zWk13 W4, zWr14 W4, zWk14 W4, zWr15 W4, zWk15 W4, zWr16 W4, zWk16 W4, zWr18 W4, zWk18 W4, m2, t2] <;> omega) | omega | fail)) only [wI_id, zLc_lt, zLc_gt, zLc_eq, zLc_le, zLc_ge, Int.reduceEq, Int.reduceLE, Int.reduceLT, Int.reduceNeg, Int.reduceAdd, Int.reduceMul, Int.reduceSub, not_true_eq_false, not_false_eq_true, reduceIte, zPo_v, zPo_n, zPo_t, zKl_i, zKl_r, zKl_n, zKl_l, gK_sI, gK_sJ, gK_sR, gK_sIA, gK_sJA, gR_sI, gR_sJ, gJ_sI, gI_sJ, gI_sR, gJ_sR, gR_sIA, gJ_sIA, Nat.reduceLeDiff, Nat.reduceEqDiff, eX5_goes_2_0, eX5_goes_2_1, eX5_goes_2_2, eX5_goes_2_5, eX5_goes_2_8, eX5_goes_2_9, eX5_goes_2_10, eX5_goes_2_13, eX5_goes_2_14, eX5_goes_2_15, eX5_goes_2_18, eX5_goes_2_19, eX5_goes_2_20, eX5_goes_2_23, eX5_goes_2_26, eX5_goes_2_27, eX5_goes_2_28, eX5_goes_2_29, eX5_goes_2_32, eX5_goes_2_33, eX5_goes_2_34, eX5_goes_2_35, eX5_goes_2_36, eX5_goes_2_37, eX5_goes_2_38, eX5_goes_2_39, eX5_goes_2_42, eX5_goes_2_43, eX5_goes_2_44, eX5_goes_2_47, eX5_goes_2_48, eX5_goes_2_49, eX5_goes_2_50, eX5_goes_2_53, eX5_goes_2_54, eX5_goes_2_55, eX5_goes_2_58, eX5_goes_2_59, eX5_goes_2_60, eX5_goes_2_61, eX5_goes_2_62, eX5_goes_2_65, eX5_goes_2_66, eX5_goes_2_69, eX5_goes_2_70, eX5_goes_2_71, eX5_goes_2_72, eX5_goes_2_75, eX5_goes_2_76, eX5_goes_2_77, eX5_goes_2_80, eX5_goes_2_81, eX5_goes_2_82, eX5_goes_2_85, eX5_goes_2_86, eX5_goes_2_89, eX5_goes_2_90, eX5_goes_2_91, eX5_goes_2_92, eX5_goes_2_95, eX5_goes_2_96, eX5_goes_2_97, eX5_goes_2_98, eX5_goes_2_101, eX5_goes_2_102, eX5_goes_2_103, eX5_goes_2_106, eX5_goes_2_107, eX5_goes_2_108, eX5_goes_2_111, eX5_goes_2_112, eX5_goes_2_115, eX5_goes_2_116, eX5_goes_2_117, eX5_goes_2_120, eX5_goes_2_121, eX5_goes_2_122, eX5_goes_2_123, eX5_goes_2_124, eX5_goes_2_125, eX5_goes_2_126, eX5_goes_2_127, eX5_goes_2_130, eX5_goes_2_131, eX5_goes_2_132, eX5_goes_2_133, eX5_goes_2_134, eX5_goes_2_135, eX5_goes_2_136, eX5_goes_2_137, eX5_goes_2_in, W4, zWkk W4, zWr13 W4, zWk13 W4, zWr14 W4, zWk14 W4, zWr15 W4, zWk15 W4, zWr16 W4, zWk16 W4, zWr18 W4, zWk18 W4, if_neg k2, u1, u3, m1, m2, t1, t2, t4, cX_aboard f3 P4, ← ed, gI_sI_ne]
          rw [if_pos k2]
          exact hQ
  · have l1 := hsea.2.2 (by omega)
    unfold fGo at hQ
    rw [if_pos (by omega)] at hQ
    have e9 : fPay a s = a := by
      unfold fPay
      rw [if_neg (by omega)]
    rw [e9] at hQ e8
    simp (disch := (first | (simp only [gK_sI, gK_sJ, gK_sR, gK_sIA, gK_sJA, gR_sI, gR_sJ, gR_sIA, Nat.reduceLeDiff, Nat.reduceEqDiff, Nat.reduceLT, Int.reduceLE, Int.reduceLT, Int.reduceEq, zWt_i, zWt_l, zWt_r, zWt_n, W0, zWkk W0, zWr13 W0, zWk13 W0, zWr14 W0, zWk14 W0, zWr15 W0, zWk15 W0, zWr16 W0, zWk16 W0, zWr18 W0, zWk18 W0] <;> omega) | omega | fail)) only [if_pos, if_neg, wI_id, zLc_lt, zLc_gt, zLc_eq, zLc_le, zLc_ge, Int.reduceEq, Int.reduceLE, Int.reduceLT, Int.reduceNeg, Int.reduceAdd, Int.reduceMul, Int.reduceSub, not_true_eq_false, not_false_eq_true, reduceIte, zPo_v, zPo_n, zPo_t, zKl_i, zKl_r, zKl_n, zKl_l, gK_sI, gK_sJ, gK_sR, gK_sIA, gK_sJA, gR_sI, gR_sJ, gJ_sI, gI_sJ, gI_sR, gJ_sR, gR_sIA, gJ_sIA, Nat.reduceLeDiff, Nat.reduceEqDiff, eX5_goes_2_0, eX5_goes_2_1, eX5_goes_2_2, eX5_goes_2_5, eX5_goes_2_8, eX5_goes_2_9, eX5_goes_2_10, eX5_goes_2_13, eX5_goes_2_14, eX5_goes_2_15, eX5_goes_2_18, eX5_goes_2_19, eX5_goes_2_20, eX5_goes_2_23, eX5_goes_2_26, eX5_goes_2_27, eX5_goes_2_28, eX5_goes_2_29, eX5_goes_2_32, eX5_goes_2_33, eX5_goes_2_34, eX5_goes_2_35, eX5_goes_2_36, eX5_goes_2_37, eX5_goes_2_38, eX5_goes_2_39, eX5_goes_2_42, eX5_goes_2_43, eX5_goes_2_44, eX5_goes_2_47, eX5_goes_2_48, eX5_goes_2_49, eX5_goes_2_50, eX5_goes_2_53, eX5_goes_2_54, eX5_goes_2_55, eX5_goes_2_58, eX5_goes_2_59, eX5_goes_2_60, eX5_goes_2_61, eX5_goes_2_62, eX5_goes_2_65, eX5_goes_2_66, eX5_goes_2_69, eX5_goes_2_70, eX5_goes_2_71, eX5_goes_2_72, eX5_goes_2_75, eX5_goes_2_76, eX5_goes_2_77, eX5_goes_2_80, eX5_goes_2_81, eX5_goes_2_82, eX5_goes_2_85, eX5_goes_2_86, eX5_goes_2_89, eX5_goes_2_90, eX5_goes_2_91, eX5_goes_2_92, eX5_goes_2_95, eX5_goes_2_96, eX5_goes_2_97, eX5_goes_2_98, eX5_goes_2_101, eX5_goes_2_102, eX5_goes_2_103, eX5_goes_2_106, eX5_goes_2_107, eX5_goes_2_108, eX5_goes_2_111, eX5_goes_2_112, eX5_goes_2_115, eX5_goes_2_116, eX5_goes_2_117, eX5_goes_2_120, eX5_goes_2_121, eX5_goes_2_122, eX5_goes_2_123, eX5_goes_2_124, eX5_goes_2_125, eX5_goes_2_126, eX5_goes_2_127, eX5_goes_2_130, eX5_goes_2_131, eX5_goes_2_132, eX5_goes_2_133, eX5_goes_2_134, eX5_goes_2_135, eX5_goes_2_136, eX5_goes_2_137, eX5_goes_2_in, cX_isAtSea P, c1]
    refine kX_leaks v P h0 (by omega) (fun h2 P2 S2 => ?_)
    have W2 := P2.2.1
    have hc2 := cX_isAtSea (d := d) (Q := zPo mX5_goes_2 d 20 23 [some (Sum.inr (Sum.inr (some w))), some (Sum.inl s), none, none] [] Q) P2 h0 (by omega)
    rw [e8] at hc2
    simp (disch := (first | (simp only [gK_sI, gK_sJ, gK_sR, gK_sIA, gK_sJA, gR_sI, gR_sJ, gR_sIA, Nat.reduceLeDiff, Nat.reduceEqDiff, Nat.reduceLT, Int.reduceLE, Int.reduceLT, Int.reduceEq, zWt_i, zWt_l, zWt_r, zWt_n, W2, zWkk W2, zWr13 W2, zWk13 W2, zWr14 W2, zWk14 W2, zWr15 W2, zWk15 W2, zWr16 W2, zWk16 W2, zWr18 W2, zWk18 W2] <;> omega) | omega | fail)) only [if_pos, if_neg, wI_id, zLc_lt, zLc_gt, zLc_eq, zLc_le, zLc_ge, Int.reduceEq, Int.reduceLE, Int.reduceLT, Int.reduceNeg, Int.reduceAdd, Int.reduceMul, Int.reduceSub, not_true_eq_false, not_false_eq_true, reduceIte, zPo_v, zPo_n, zPo_t, zKl_i, zKl_r, zKl_n, zKl_l, gK_sI, gK_sJ, gK_sR, gK_sIA, gK_sJA, gR_sI, gR_sJ, gJ_sI, gI_sJ, gI_sR, gJ_sR, gR_sIA, gJ_sIA, Nat.reduceLeDiff, Nat.reduceEqDiff, eX5_goes_2_0, eX5_goes_2_1, eX5_goes_2_2, eX5_goes_2_5, eX5_goes_2_8, eX5_goes_2_9, eX5_goes_2_10, eX5_goes_2_13, eX5_goes_2_14, eX5_goes_2_15, eX5_goes_2_18, eX5_goes_2_19, eX5_goes_2_20, eX5_goes_2_23, eX5_goes_2_26, eX5_goes_2_27, eX5_goes_2_28, eX5_goes_2_29, eX5_goes_2_32, eX5_goes_2_33, eX5_goes_2_34, eX5_goes_2_35, eX5_goes_2_36, eX5_goes_2_37, eX5_goes_2_38, eX5_goes_2_39, eX5_goes_2_42, eX5_goes_2_43, eX5_goes_2_44, eX5_goes_2_47, eX5_goes_2_48, eX5_goes_2_49, eX5_goes_2_50, eX5_goes_2_53, eX5_goes_2_54, eX5_goes_2_55, eX5_goes_2_58, eX5_goes_2_59, eX5_goes_2_60, eX5_goes_2_61, eX5_goes_2_62, eX5_goes_2_65, eX5_goes_2_66, eX5_goes_2_69, eX5_goes_2_70, eX5_goes_2_71, eX5_goes_2_72, eX5_goes_2_75, eX5_goes_2_76, eX5_goes_2_77, eX5_goes_2_80, eX5_goes_2_81, eX5_goes_2_82, eX5_goes_2_85, eX5_goes_2_86, eX5_goes_2_89, eX5_goes_2_90, eX5_goes_2_91, eX5_goes_2_92, eX5_goes_2_95, eX5_goes_2_96, eX5_goes_2_97, eX5_goes_2_98, eX5_goes_2_101, eX5_goes_2_102, eX5_goes_2_103, eX5_goes_2_106, eX5_goes_2_107, eX5_goes_2_108, eX5_goes_2_111, eX5_goes_2_112, eX5_goes_2_115, eX5_goes_2_116, eX5_goes_2_117, eX5_goes_2_120, eX5_goes_2_121, eX5_goes_2_122, eX5_goes_2_123, eX5_goes_2_124, eX5_goes_2_125, eX5_goes_2_126, eX5_goes_2_127, eX5_goes_2_130, eX5_goes_2_131, eX5_goes_2_132, eX5_goes_2_133, eX5_goes_2_134, eX5_goes_2_135, eX5_goes_2_136, eX5_goes_2_137, eX5_goes_2_in, hc2, c1]
    exact hQ _ P2 S2
end X6
