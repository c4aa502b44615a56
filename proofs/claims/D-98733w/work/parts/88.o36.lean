/-! ===== LOGS, 3: the log copied to a tray ===== -/
set_option maxRecDepth 100000
theorem fPut_1 {h : zHp} {s i x : Int} {r : Nat} : (fPut h s r i x).1 = h.1 := by
  unfold fPut
  split <;> rfl
theorem fPut_K {h : zHp} {s i x : Int} {r : Nat} : gK (fPut h s r i x) = gK h := by
  unfold fPut
  split <;> rfl
theorem fPut_R {h : zHp} {s i x : Int} {r : Nat} : gR (fPut h s r i x) = gR h := by
  unfold fPut
  split <;> rfl
theorem fPut_I {h : zHp} {s i x : Int} {r b : Nat} (hb : b ≠ r) : gI (fPut h s r i x) b = gI h b := by
  unfold fPut
  split
  · rfl
  · exact gI_sI_ne hb
theorem fPut_J {h : zHp} {s i x : Int} {r b : Nat} (hb : b ≠ r) : gJ (fPut h s r i x) b = gJ h b := by
  unfold fPut
  split
  · exact gJ_sJ_ne hb
  · rfl
def fCw (h : zHp) (s : Int) (r : Nat) (f : Nat → Int) : Nat → zHp
  | 0 => h
  | k + 1 => fPut (fCw h s r f k) s r k (f k)
theorem fCw_1 {h : zHp} {s : Int} {r : Nat} {f : Nat → Int} : ∀ k, (fCw h s r f k).1 = h.1
  | 0 => rfl
  | k + 1 => fPut_1.trans (fCw_1 k)
theorem fCw_K {h : zHp} {s : Int} {r : Nat} {f : Nat → Int} : ∀ k, gK (fCw h s r f k) = gK h
  | 0 => rfl
  | k + 1 => fPut_K.trans (fCw_K k)
theorem fCw_R {h : zHp} {s : Int} {r : Nat} {f : Nat → Int} : ∀ k, gR (fCw h s r f k) = gR h
  | 0 => rfl
  | k + 1 => fPut_R.trans (fCw_R k)
theorem fCw_I {h : zHp} {s : Int} {r b : Nat} {f : Nat → Int} (hb : b ≠ r) : ∀ k, gI (fCw h s r f k) b = gI h b
  | 0 => rfl
  | k + 1 => (fPut_I hb).trans (fCw_I hb k)
theorem fCw_J {h : zHp} {s : Int} {r b : Nat} {f : Nat → Int} (hb : b ≠ r) : ∀ k, gJ (fCw h s r f k) b = gJ h b
  | 0 => rfl
  | k + 1 => (fPut_J hb).trans (fCw_J hb k)
theorem fCw_V {h : zHp} {s j : Int} {r : Nat} {f : Nat → Int} (j0 : 0 ≤ j) : ∀ k : Nat, zTv (fCw h s r f k) s r j = if j < k then fCut s (f j.toNat) else zTv h s r j
  | 0 => by
    rw [if_neg (by omega)]
    rfl
  | k + 1 => by
    show zTv (fPut (fCw h s r f k) s r k (f k)) s r j = _
    rw [zTv_put, fCw_V j0 k]
    by_cases e : j = k
    · rw [if_pos e, if_pos (by omega), e, Int.toNat_natCast]
    · rw [if_neg e]
      by_cases c : j < k
      · rw [if_pos c, if_pos (by omega)]
      · rw [if_neg c, if_neg (by omega)]
theorem zTv_of {h h' : zHp} {s j : Int} {r : Nat} (e1 : gI h' r = gI h r) (e2 : gJ h' r = gJ h r) : zTv h' s r j = zTv h s r j := by
  unfold zTv
  rw [e1, e2]
theorem zSx_put {h h' : zHp} {s i x : Int} {r : Nat} (S : zSx h h') (hr : 129 ≤ r) : zSx (fPut h s r i x) (fPut (sI h' 65 7 0) s r i x) := by
  obtain ⟨S1, S2, S3, S4, S5, S6, S7⟩ := S
  refine ⟨by rw [fPut_1, fPut_1]; exact S1, by rw [fPut_K, fPut_K]; exact S2, ?_, fun b hb => by rw [fPut_R, fPut_R]; exact S4 b hb, fun j hj => by rw [fPut_R, fPut_R]; exact S5 j hj, fun b b1 b2 => ?_, fun j j1 j2 j3 j4 j5 j6 => ?_⟩
  · unfold fPut
    split
    · show gJ (sJ h' r i x) = gJ (sJ h r i x)
      funext b
      by_cases e : b = r
      · subst e
        rw [gJ_sJ_eq, gJ_sJ_eq, S3]
      · rw [gJ_sJ_ne e, gJ_sJ_ne e, S3]
    · exact S3
  · by_cases e : b = r
    · subst e
      unfold fPut
      split
      · show gI (sI h' 65 7 0) b = gI h b
        rw [gI_sI_ne b1]
        exact S6 b b1 b2
      · rw [gI_sI_eq, gI_sI_eq, gI_sI_ne b1, S6 b b1 b2]
    · rw [fPut_I e, fPut_I e, gI_sI_ne b1]
      exact S6 b b1 b2
  · rw [fPut_I (by omega), fPut_I (by omega), gI_sI_eq, zU_ne j1]
    exact S7 j j1 j2 j3 j4 j5 j6
theorem zPw_put {h : zHp} {w : Nat} {a nm : Int → Int} {s i x : Int} {r m : Nat} (P : zPw h w a nm) (K : zXk h) (s0 : 0 ≤ s) (s1 : s ≤ 3) (hk : gK h r = (zKd s, m)) (hr : w + 15 < r) : zPw (fPut (sI h 65 7 0) s r i x) w a nm := by
  have kk := zXkk K
  have hw := P.1
  have ne : w ≠ 65 := fun e9 => by
    have h9 := zWkk P.2.1
    rw [e9, kk] at h9
    exact absurd h9 (by decide)
  have kz : 1 ≤ zKd s ∧ zKd s ≤ 4 := by
    unfold zKd
    (repeat' split) <;> decide
  refine zPw_fr P (fun b _ => by rw [fPut_K]; rfl) (fun b _ => by rw [fPut_R]; rfl) (fun b b1 _ _ => ?_) (fun b hb => ?_)
  · rw [fPut_J (fun e => by rw [e, hk] at b1; exact absurd b1 (by show zKd s ≠ 0; omega))]
    rfl
  · have n1 : b ≠ r := fun e => by
      rcases hb with hb | ⟨q, -, -⟩
      · omega
      · rw [e, hk] at q
        exact absurd q (by show zKd s ≠ 0; omega)
    have n2 : b ≠ 65 := fun e => by
      rcases hb with hb | ⟨-, q, -⟩
      · omega
      · rw [e, kk] at q
        exact absurd q (by decide)
    rw [fPut_I n1, gI_sI_ne n2]
def fCl (V : Int → Int) (so t : Int) (f : Nat → Int) (n : Int) : Int → Int := fun z => if 60 * t ≤ z ∧ z < 60 * t + n then fCut so (f (z - 60 * t).toNat) else V z
theorem fCl_0 {V : Int → Int} {so t : Int} {f : Nat → Int} : fCl V so t f 0 = V := by
  funext z
  exact if_neg (by omega)
theorem fCl_s {V : Int → Int} {so t i : Int} {f : Nat → Int} (i0 : 0 ≤ i) : zU (fCl V so t f i) (60 * t + i) (fCut so (f i.toNat)) = fCl V so t f (i + 1) := by
  funext z
  unfold zU fCl
  by_cases e : z = 60 * t + i
  · rw [if_pos e, if_pos (by omega), e, show 60 * t + i - 60 * t = i by omega]
  · rw [if_neg e]
    by_cases c : 60 * t ≤ z ∧ z < 60 * t + i
    · rw [if_pos c, if_pos (by omega)]
    · rw [if_neg c, if_neg (by omega)]
theorem sJA_sJ {h : zHp} {F : Int → Int} {j v : Int} {b : Nat} : sJ (sJA h b F) b j v = sJA h b (zU F j v) := by
  unfold sJ sJA gJ
  simp only [if_pos]
  congr 1
  congr 1
  congr 1
  congr 1
  funext c
  by_cases e : c = b <;> simp [e]
theorem sJA_id {h : zHp} {b : Nat} : sJA h b (gJ h b) = h := by
  obtain ⟨u1, u2, u3, u4, u5⟩ := h
  unfold sJA gJ
  dsimp only
  congr 1
  congr 1
  congr 1
  congr 1
  funext c
  by_cases e : c = b <;> simp [e]
theorem gJ_sJA_eq {h : zHp} {b : Nat} {F : Int → Int} : gJ (sJA h b F) b = F := if_pos rfl
theorem gJ_sJA_ne {h : zHp} {b c : Nat} {F : Int → Int} (e : c ≠ b) : gJ (sJA h b F) c = gJ h c := if_neg e
def fWc (a : Int → Int) (ma s t n : Int) : Int := if (0 ≤ s ∧ s < a 3) ∧ (0 ≤ t ∧ t < 4) ∧ 1 ≤ n ∧ n ≤ 20 then (if ma = -1 then 2 else if ma < n then 3 else 0) else 1
section O36
variable {d : Nat} {h : zHp} {Q : zRs → Prop} {a f nm : Int → Int}

theorem cM_copyLog {s t n : Int} (P : zMk h) (v : zIv a) (hs : fWc a (gI h 117 t) s t n = 0 → 0 ≤ gI h 116 t ∧ gI h 116 t ≤ 3) (hn : fWc a (gI h 117 t) s t n ≠ 0 → Q (zRv (zi (-1)) (zH2 (sI h 113 2 (fWc a (gI h 117 t) s t n)) a f))) (hy : fWc a (gI h 117 t) s t n = 0 → ∀ g, Q (zRv (zi n) (zH2 (sI (sJA h 118 (fCl (gJ h 118) (gI h 116 t) t (fun k => fFlN a s (k : Int)) n)) 113 2 0) a g))) : zCm mX6_copyLog d [zr (some 113), zi s, zi t, zi n] (zH2 h a f) Q := by
  have bs := (zIships v).2
  unfold fWc at hs hn hy
  by_cases c1 : (0 ≤ s ∧ s < a 3) ∧ (0 ≤ t ∧ t < 4) ∧ 1 ≤ n ∧ n ≤ 20
  · rw [if_pos c1] at hs hn hy
    obtain ⟨s9, t9, n9⟩ := c1
    by_cases c2 : gI h 117 t = -1
    · rw [if_pos c2] at hn
      have hn := hn (by decide)
      simp (disch := (first | (simp only [gK_sI, gK_sJ, gK_sR, gK_sIA, gK_sJA, gR_sI, gR_sJ, gR_sIA, Nat.reduceLeDiff, Nat.reduceEqDiff, Nat.reduceLT, Int.reduceLE, Int.reduceLT, Int.reduceEq, zWt_i, zWt_l, zWt_r, zWt_n, zH2_gK, zH2_mk, P, zMkk P, zMr5 P, zMk5 P, zMr6 P, zMk6 P, zMr7 P, zMk7 P] <;> omega) | omega | fail)) only [if_pos, if_neg, wI_id, zLc_lt, zLc_gt, zLc_eq, zLc_le, zLc_ge, Int.reduceEq, Int.reduceLE, Int.reduceLT, Int.reduceNeg, Int.reduceAdd, Int.reduceMul, Int.reduceSub, not_true_eq_false, not_false_eq_true, reduceIte, zPo_v, zPo_n, zPo_t, zKl_i, zKl_r, zKl_n, zKl_l, gK_sI, gK_sJ, gK_sR, gK_sIA, gK_sJA, gR_sI, gR_sJ, gJ_sI, gI_sJ, gI_sR, gJ_sR, gR_sIA, gJ_sIA, Nat.reduceLeDiff, Nat.reduceEqDiff, and_self, and_true, true_and, and_false, false_and, eX6_copyLog_0, eX6_copyLog_1, eX6_copyLog_2, eX6_copyLog_5, eX6_copyLog_8, eX6_copyLog_9, eX6_copyLog_12, eX6_copyLog_15, eX6_copyLog_16, eX6_copyLog_17, eX6_copyLog_18, eX6_copyLog_21, eX6_copyLog_24, eX6_copyLog_27, eX6_copyLog_28, eX6_copyLog_29, eX6_copyLog_32, eX6_copyLog_33, eX6_copyLog_34, eX6_copyLog_37, eX6_copyLog_38, eX6_copyLog_39, eX6_copyLog_40, eX6_copyLog_43, eX6_copyLog_44, eX6_copyLog_45, eX6_copyLog_48, eX6_copyLog_49, eX6_copyLog_50, eX6_copyLog_53, eX6_copyLog_54, eX6_copyLog_55, eX6_copyLog_56, eX6_copyLog_59, eX6_copyLog_60, eX6_copyLog_61, eX6_copyLog_64, eX6_copyLog_65, eX6_copyLog_66, eX6_copyLog_70, eX6_copyLog_71, eX6_copyLog_74, eX6_copyLog_75, eX6_copyLog_78, eX6_copyLog_80, eX6_copyLog_81, eX6_copyLog_82, eX6_copyLog_84, eX6_copyLog_85, eX6_copyLog_86, eX6_copyLog_87, eX6_copyLog_89, eX6_copyLog_92, eX6_copyLog_93, eX6_copyLog_94, eX6_copyLog_97, eX6_copyLog_98, eX6_copyLog_99, eX6_copyLog_102, eX6_copyLog_103, eX6_copyLog_106, eX6_copyLog_109, eX6_copyLog_110, eX6_copyLog_111, eX6_copyLog_114, eX6_copyLog_in, zH2_gK, zH2_gR, zH2_at, zH2_sI, zU_ne, P, zMkk P, zMr5 P, zMk5 P, zMr6 P, zMk6 P, zMr7 P, zMk7 P, cM_isShip (zH2_mk.mpr P), cM_isTray, cM_isFrom, cM_refuse (zH2_mk.mpr P), zH2_ne, zH2_sIne, s9, t9, n9, c2]
      exact hn
    · rw [if_neg c2] at hs hn hy
      by_cases c3 : gI h 117 t < n
      · rw [if_pos c3] at hn
        have hn := hn (by decide)
        simp (disch := (first | (simp only [gK_sI, gK_sJ, gK_sR, gK_sIA, gK_sJA, gR_sI, gR_sJ, gR_sIA, Nat.reduceLeDiff, Nat.reduceEqDiff, Nat.reduceLT, Int.reduceLE, Int.reduceLT, Int.reduceEq, zWt_i, zWt_l, zWt_r, zWt_n, zH2_gK, zH2_mk, P, zMkk P, zMr5 P, zMk5 P, zMr6 P, zMk6 P, zMr7 P, zMk7 P] <;> omega) | omega | fail)) only [if_pos, if_neg, wI_id, zLc_lt, zLc_gt, zLc_eq, zLc_le, zLc_ge, Int.reduceEq, Int.reduceLE, Int.reduceLT, Int.reduceNeg, Int.reduceAdd, Int.reduceMul, Int.reduceSub, not_true_eq_false, not_false_eq_true, reduceIte, zPo_v, zPo_n, zPo_t, zKl_i, zKl_r, zKl_n, zKl_l, gK_sI, gK_sJ, gK_sR, gK_sIA, gK_sJA, gR_sI, gR_sJ, gJ_sI, gI_sJ, gI_sR, gJ_sR, gR_sIA, gJ_sIA, Nat.reduceLeDiff, Nat.reduceEqDiff, and_self, and_true, true_and, and_false, false_and, eX6_copyLog_0, eX6_copyLog_1, eX6_copyLog_2, eX6_copyLog_5, eX6_copyLog_8, eX6_copyLog_9, eX6_copyLog_12, eX6_copyLog_15, eX6_copyLog_16, eX6_copyLog_17, eX6_copyLog_18, eX6_copyLog_21, eX6_copyLog_24, eX6_copyLog_27, eX6_copyLog_28, eX6_copyLog_29, eX6_copyLog_32, eX6_copyLog_33, eX6_copyLog_34, eX6_copyLog_37, eX6_copyLog_38, eX6_copyLog_39, eX6_copyLog_40, eX6_copyLog_43, eX6_copyLog_44, eX6_copyLog_45, eX6_copyLog_48, eX6_copyLog_49, eX6_copyLog_50, eX6_copyLog_53, eX6_copyLog_54, eX6_copyLog_55, eX6_copyLog_56, eX6_copyLog_59, eX6_copyLog_60, eX6_copyLog_61, eX6_copyLog_64, eX6_copyLog_65, eX6_copyLog_66, eX6_copyLog_70, eX6_copyLog_71, eX6_copyLog_74, eX6_copyLog_75, eX6_copyLog_78, eX6_copyLog_80, eX6_copyLog_81, eX6_copyLog_82, eX6_copyLog_84, eX6_copyLog_85, eX6_copyLog_86, eX6_copyLog_87, eX6_copyLog_89, eX6_copyLog_92, eX6_copyLog_93, eX6_copyLog_94, eX6_copyLog_97, eX6_copyLog_98, eX6_copyLog_99, eX6_copyLog_102, eX6_copyLog_103, eX6_copyLog_106, eX6_copyLog_109, eX6_copyLog_110, eX6_copyLog_111, eX6_copyLog_114, eX6_copyLog_in, zH2_gK, zH2_gR, zH2_at, zH2_sI, zU_ne, P, zMkk P, zMr5 P, zMk5 P, zMr6 P, zMk6 P, zMr7 P, zMk7 P, cM_isShip (zH2_mk.mpr P), cM_isTray, cM_isFrom, cM_refuse (zH2_mk.mpr P), zH2_ne, zH2_sIne, s9, t9, n9, c2, c3]
        exact hn
      · rw [if_neg c3] at hs hy
        have hy := hy rfl
        obtain ⟨o0, o1⟩ := hs rfl
        simp (disch := (first | (simp only [gK_sI, gK_sJ, gK_sR, gK_sIA, gK_sJA, gR_sI, gR_sJ, gR_sIA, Nat.reduceLeDiff, Nat.reduceEqDiff, Nat.reduceLT, Int.reduceLE, Int.reduceLT, Int.reduceEq, zWt_i, zWt_l, zWt_r, zWt_n, zH2_gK, zH2_mk, P, zMkk P, zMr5 P, zMk5 P, zMr6 P, zMk6 P, zMr7 P, zMk7 P] <;> omega) | omega | fail)) only [if_pos, if_neg, wI_id, zLc_lt, zLc_gt, zLc_eq, zLc_le, zLc_ge, Int.reduceEq, Int.reduceLE, Int.reduceLT, Int.reduceNeg, Int.reduceAdd, Int.reduceMul, Int.reduceSub, not_true_eq_false, not_false_eq_true, reduceIte, zPo_v, zPo_n, zPo_t, zKl_i, zKl_r, zKl_n, zKl_l, gK_sI, gK_sJ, gK_sR, gK_sIA, gK_sJA, gR_sI, gR_sJ, gJ_sI, gI_sJ, gI_sR, gJ_sR, gR_sIA, gJ_sIA, Nat.reduceLeDiff, Nat.reduceEqDiff, and_self, and_true, true_and, and_false, false_and, eX6_copyLog_0, eX6_copyLog_1, eX6_copyLog_2, eX6_copyLog_5, eX6_copyLog_8, eX6_copyLog_9, eX6_copyLog_12, eX6_copyLog_15, eX6_copyLog_16, eX6_copyLog_17, eX6_copyLog_18, eX6_copyLog_21, eX6_copyLog_24, eX6_copyLog_27, eX6_copyLog_28, eX6_copyLog_29, eX6_copyLog_32, eX6_copyLog_33, eX6_copyLog_34, eX6_copyLog_37, eX6_copyLog_38, eX6_copyLog_39, eX6_copyLog_40, eX6_copyLog_43, eX6_copyLog_44, eX6_copyLog_45, eX6_copyLog_48, eX6_copyLog_49, eX6_copyLog_50, eX6_copyLog_53, eX6_copyLog_54, eX6_copyLog_55, eX6_copyLog_56, eX6_copyLog_59, eX6_copyLog_60, eX6_copyLog_61, eX6_copyLog_64, eX6_copyLog_65, eX6_copyLog_66, eX6_copyLog_70, eX6_copyLog_71, eX6_copyLog_74, eX6_copyLog_75, eX6_copyLog_78, eX6_copyLog_80, eX6_copyLog_81, eX6_copyLog_82, eX6_copyLog_84, eX6_copyLog_85, eX6_copyLog_86, eX6_copyLog_87, eX6_copyLog_89, eX6_copyLog_92, eX6_copyLog_93, eX6_copyLog_94, eX6_copyLog_97, eX6_copyLog_98, eX6_copyLog_99, eX6_copyLog_102, eX6_copyLog_103, eX6_copyLog_106, eX6_copyLog_109, eX6_copyLog_110, eX6_copyLog_111, eX6_copyLog_114, eX6_copyLog_in, zH2_gK, zH2_gR, zH2_at, zH2_sI, zU_ne, P, zMkk P, zMr5 P, zMk5 P, zMr6 P, zMk6 P, zMr7 P, zMk7 P, cM_isShip (zH2_mk.mpr P), cM_isTray, cM_isFrom, zH2_ne, s9, t9, n9, c2, c3]
        refine zLoop n (fun i ls h' => 0 ≤ i ∧ ls = [some (zr (some 113)), some (zi s), some (zi t), some (zi n), some (zi i)] ∧ ∃ F, h' = zH2 (sJA h 118 (fCl (gJ h 118) (gI h 116 t) t (fun k => fFlN a s (k : Int)) i)) a F) ?_ ?_ 0 _ _ (by omega) ⟨by omega, rfl, f, by rw [fCl_0, sJA_id]⟩
        · rintro i _ _ hi ⟨i0, rfl, F, rfl⟩ k
          have es := fCl_s (V := gJ h 118) (so := gI h 116 t) (t := t) (f := fun k => fFlN a s (k : Int)) i0
          have ei : fFlN a s ((i.toNat : Nat) : Int) = fFlN a s i := by rw [Int.toNat_of_nonneg i0]
          generalize hV : fCl (gJ h 118) (gI h 116 t) t (fun k => fFlN a s (k : Int)) i = V at es
          have P2 : zMk (sJA h 118 V) := P
          rw [eX6_copyLog_68]
          simp (disch := (first | (simp only [gK_sI, gK_sJ, gK_sR, gK_sIA, gK_sJA, gR_sI, gR_sJ, gR_sIA, Nat.reduceLeDiff, Nat.reduceEqDiff, Nat.reduceLT, Int.reduceLE, Int.reduceLT, Int.reduceEq, zWt_i, zWt_l, zWt_r, zWt_n, zH2_gK, zH2_mk, P2, zMkk P2, zMr5 P2, zMk5 P2, zMr6 P2, zMk6 P2, zMr7 P2, zMk7 P2] <;> omega) | omega | fail)) only [if_pos, if_neg, wI_id, zLc_lt, zLc_gt, zLc_eq, zLc_le, zLc_ge, Int.reduceEq, Int.reduceLE, Int.reduceLT, Int.reduceNeg, Int.reduceAdd, Int.reduceMul, Int.reduceSub, not_true_eq_false, not_false_eq_true, reduceIte, zPo_v, zPo_n, zPo_t, zKl_i, zKl_r, zKl_n, zKl_l, gK_sI, gK_sJ, gK_sR, gK_sIA, gK_sJA, gR_sI, gR_sJ, gJ_sI, gI_sJ, gI_sR, gJ_sR, gR_sIA, gJ_sIA, Nat.reduceLeDiff, Nat.reduceEqDiff, and_self, and_true, true_and, and_false, false_and, eX6_copyLog_0, eX6_copyLog_1, eX6_copyLog_2, eX6_copyLog_5, eX6_copyLog_8, eX6_copyLog_9, eX6_copyLog_12, eX6_copyLog_15, eX6_copyLog_16, eX6_copyLog_17, eX6_copyLog_18, eX6_copyLog_21, eX6_copyLog_24, eX6_copyLog_27, eX6_copyLog_28, eX6_copyLog_29, eX6_copyLog_32, eX6_copyLog_33, eX6_copyLog_34, eX6_copyLog_37, eX6_copyLog_38, eX6_copyLog_39, eX6_copyLog_40, eX6_copyLog_43, eX6_copyLog_44, eX6_copyLog_45, eX6_copyLog_48, eX6_copyLog_49, eX6_copyLog_50, eX6_copyLog_53, eX6_copyLog_54, eX6_copyLog_55, eX6_copyLog_56, eX6_copyLog_59, eX6_copyLog_60, eX6_copyLog_61, eX6_copyLog_64, eX6_copyLog_65, eX6_copyLog_66, eX6_copyLog_70, eX6_copyLog_71, eX6_copyLog_74, eX6_copyLog_75, eX6_copyLog_78, eX6_copyLog_80, eX6_copyLog_81, eX6_copyLog_82, eX6_copyLog_84, eX6_copyLog_85, eX6_copyLog_86, eX6_copyLog_87, eX6_copyLog_89, eX6_copyLog_92, eX6_copyLog_93, eX6_copyLog_94, eX6_copyLog_97, eX6_copyLog_98, eX6_copyLog_99, eX6_copyLog_102, eX6_copyLog_103, eX6_copyLog_106, eX6_copyLog_109, eX6_copyLog_110, eX6_copyLog_111, eX6_copyLog_114, eX6_copyLog_in, zH2_gK, zH2_gR, zH2_at, zH2_sI, zU_ne, P2, zMkk P2, zMr5 P2, zMk5 P2, zMr6 P2, zMk6 P2, zMr7 P2, zMk7 P2]
          refine kM_flagBy P2 v s9.1 (by omega) i0 (by omega) (fun g => ?_)
          simp (disch := (first | (simp only [gK_sI, gK_sJ, gK_sR, gK_sIA, gK_sJA, gR_sI, gR_sJ, gR_sIA, Nat.reduceLeDiff, Nat.reduceEqDiff, Nat.reduceLT, Int.reduceLE, Int.reduceLT, Int.reduceEq, zWt_i, zWt_l, zWt_r, zWt_n, zH2_gK, zH2_mk, P2, zMkk P2, zMr5 P2, zMk5 P2, zMr6 P2, zMk6 P2, zMr7 P2, zMk7 P2] <;> omega) | omega | fail)) only [if_pos, if_neg, wI_id, zLc_lt, zLc_gt, zLc_eq, zLc_le, zLc_ge, Int.reduceEq, Int.reduceLE, Int.reduceLT, Int.reduceNeg, Int.reduceAdd, Int.reduceMul, Int.reduceSub, not_true_eq_false, not_false_eq_true, reduceIte, zPo_v, zPo_n, zPo_t, zKl_i, zKl_r, zKl_n, zKl_l, gK_sI, gK_sJ, gK_sR, gK_sIA, gK_sJA, gR_sI, gR_sJ, gJ_sI, gI_sJ, gI_sR, gJ_sR, gR_sIA, gJ_sIA, Nat.reduceLeDiff, Nat.reduceEqDiff, and_self, and_true, true_and, and_false, false_and, eX6_copyLog_0, eX6_copyLog_1, eX6_copyLog_2, eX6_copyLog_5, eX6_copyLog_8, eX6_copyLog_9, eX6_copyLog_12, eX6_copyLog_15, eX6_copyLog_16, eX6_copyLog_17, eX6_copyLog_18, eX6_copyLog_21, eX6_copyLog_24, eX6_copyLog_27, eX6_copyLog_28, eX6_copyLog_29, eX6_copyLog_32, eX6_copyLog_33, eX6_copyLog_34, eX6_copyLog_37, eX6_copyLog_38, eX6_copyLog_39, eX6_copyLog_40, eX6_copyLog_43, eX6_copyLog_44, eX6_copyLog_45, eX6_copyLog_48, eX6_copyLog_49, eX6_copyLog_50, eX6_copyLog_53, eX6_copyLog_54, eX6_copyLog_55, eX6_copyLog_56, eX6_copyLog_59, eX6_copyLog_60, eX6_copyLog_61, eX6_copyLog_64, eX6_copyLog_65, eX6_copyLog_66, eX6_copyLog_70, eX6_copyLog_71, eX6_copyLog_74, eX6_copyLog_75, eX6_copyLog_78, eX6_copyLog_80, eX6_copyLog_81, eX6_copyLog_82, eX6_copyLog_84, eX6_copyLog_85, eX6_copyLog_86, eX6_copyLog_87, eX6_copyLog_89, eX6_copyLog_92, eX6_copyLog_93, eX6_copyLog_94, eX6_copyLog_97, eX6_copyLog_98, eX6_copyLog_99, eX6_copyLog_102, eX6_copyLog_103, eX6_copyLog_106, eX6_copyLog_109, eX6_copyLog_110, eX6_copyLog_111, eX6_copyLog_114, eX6_copyLog_in, zH2_gK, zH2_gR, zH2_at, zH2_sI, zU_ne, P2, zMkk P2, zMr5 P2, zMk5 P2, zMr6 P2, zMk6 P2, zMr7 P2, zMk7 P2, zH2_ne, gI_sJA, kM_cut o0 o1, zH2_sJ, sJA_sJ]
          refine k _ _ ⟨by omega, rfl, g, ?_⟩
          rw [← es, ei]
        · rintro _ _ ⟨-, rfl, F, rfl⟩
          generalize hV : fCl (gJ h 118) (gI h 116 t) t (fun k => fFlN a s (k : Int)) n = V at hy
          have P2 : zMk (sJA h 118 V) := P
          rw [eX6_copyLog_68]
          simp (disch := (first | (simp only [gK_sI, gK_sJ, gK_sR, gK_sIA, gK_sJA, gR_sI, gR_sJ, gR_sIA, Nat.reduceLeDiff, Nat.reduceEqDiff, Nat.reduceLT, Int.reduceLE, Int.reduceLT, Int.reduceEq, zWt_i, zWt_l, zWt_r, zWt_n, zH2_gK, zH2_mk, P2, zMkk P2, zMr5 P2, zMk5 P2, zMr6 P2, zMk6 P2, zMr7 P2, zMk7 P2] <;> omega) | omega | fail)) only [if_pos, if_neg, wI_id, zLc_lt, zLc_gt, zLc_eq, zLc_le, zLc_ge, Int.reduceEq, Int.reduceLE, Int.reduceLT, Int.reduceNeg, Int.reduceAdd, Int.reduceMul, Int.reduceSub, not_true_eq_false, not_false_eq_true, reduceIte, zPo_v, zPo_n, zPo_t, zKl_i, zKl_r, zKl_n, zKl_l, gK_sI, gK_sJ, gK_sR, gK_sIA, gK_sJA, gR_sI, gR_sJ, gJ_sI, gI_sJ, gI_sR, gJ_sR, gR_sIA, gJ_sIA, Nat.reduceLeDiff, Nat.reduceEqDiff, and_self, and_true, true_and, and_false, false_and, eX6_copyLog_0, eX6_copyLog_1, eX6_copyLog_2, eX6_copyLog_5, eX6_copyLog_8, eX6_copyLog_9, eX6_copyLog_12, eX6_copyLog_15, eX6_copyLog_16, eX6_copyLog_17, eX6_copyLog_18, eX6_copyLog_21, eX6_copyLog_24, eX6_copyLog_27, eX6_copyLog_28, eX6_copyLog_29, eX6_copyLog_32, eX6_copyLog_33, eX6_copyLog_34, eX6_copyLog_37, eX6_copyLog_38, eX6_copyLog_39, eX6_copyLog_40, eX6_copyLog_43, eX6_copyLog_44, eX6_copyLog_45, eX6_copyLog_48, eX6_copyLog_49, eX6_copyLog_50, eX6_copyLog_53, eX6_copyLog_54, eX6_copyLog_55, eX6_copyLog_56, eX6_copyLog_59, eX6_copyLog_60, eX6_copyLog_61, eX6_copyLog_64, eX6_copyLog_65, eX6_copyLog_66, eX6_copyLog_70, eX6_copyLog_71, eX6_copyLog_74, eX6_copyLog_75, eX6_copyLog_78, eX6_copyLog_80, eX6_copyLog_81, eX6_copyLog_82, eX6_copyLog_84, eX6_copyLog_85, eX6_copyLog_86, eX6_copyLog_87, eX6_copyLog_89, eX6_copyLog_92, eX6_copyLog_93, eX6_copyLog_94, eX6_copyLog_97, eX6_copyLog_98, eX6_copyLog_99, eX6_copyLog_102, eX6_copyLog_103, eX6_copyLog_106, eX6_copyLog_109, eX6_copyLog_110, eX6_copyLog_111, eX6_copyLog_114, eX6_copyLog_in, cM_gives (zH2_mk.mpr P2), zH2_sIne]
          exact hy F
  · rw [if_neg c1] at hn
    have hn := hn (by decide)
    simp (disch := (first | (simp only [gK_sI, gK_sJ, gK_sR, gK_sIA, gK_sJA, gR_sI, gR_sJ, gR_sIA, Nat.reduceLeDiff, Nat.reduceEqDiff, Nat.reduceLT, Int.reduceLE, Int.reduceLT, Int.reduceEq, zWt_i, zWt_l, zWt_r, zWt_n, zH2_gK, zH2_mk, P, zMkk P, zMr5 P, zMk5 P, zMr6 P, zMk6 P, zMr7 P, zMk7 P] <;> omega) | omega | fail)) only [wI_id, zLc_lt, zLc_gt, zLc_eq, zLc_le, zLc_ge, Int.reduceEq, Int.reduceLE, Int.reduceLT, Int.reduceNeg, Int.reduceAdd, Int.reduceMul, Int.reduceSub, not_true_eq_false, not_false_eq_true, reduceIte, zPo_v, zPo_n, zPo_t, zKl_i, zKl_r, zKl_n, zKl_l, gK_sI, gK_sJ, gK_sR, gK_sIA, gK_sJA, gR_sI, gR_sJ, gJ_sI, gI_sJ, gI_sR, gJ_sR, gR_sIA, gJ_sIA, Nat.reduceLeDiff, Nat.reduceEqDiff, and_self, and_true, true_and, and_false, false_and, eX6_copyLog_0, eX6_copyLog_1, eX6_copyLog_2, eX6_copyLog_5, eX6_copyLog_8, eX6_copyLog_9, eX6_copyLog_12, eX6_copyLog_15, eX6_copyLog_16, eX6_copyLog_17, eX6_copyLog_18, eX6_copyLog_21, eX6_copyLog_24, eX6_copyLog_27, eX6_copyLog_28, eX6_copyLog_29, eX6_copyLog_32, eX6_copyLog_33, eX6_copyLog_34, eX6_copyLog_37, eX6_copyLog_38, eX6_copyLog_39, eX6_copyLog_40, eX6_copyLog_43, eX6_copyLog_44, eX6_copyLog_45, eX6_copyLog_48, eX6_copyLog_49, eX6_copyLog_50, eX6_copyLog_53, eX6_copyLog_54, eX6_copyLog_55, eX6_copyLog_56, eX6_copyLog_59, eX6_copyLog_60, eX6_copyLog_61, eX6_copyLog_64, eX6_copyLog_65, eX6_copyLog_66, eX6_copyLog_70, eX6_copyLog_71, eX6_copyLog_74, eX6_copyLog_75, eX6_copyLog_78, eX6_copyLog_80, eX6_copyLog_81, eX6_copyLog_82, eX6_copyLog_84, eX6_copyLog_85, eX6_copyLog_86, eX6_copyLog_87, eX6_copyLog_89, eX6_copyLog_92, eX6_copyLog_93, eX6_copyLog_94, eX6_copyLog_97, eX6_copyLog_98, eX6_copyLog_99, eX6_copyLog_102, eX6_copyLog_103, eX6_copyLog_106, eX6_copyLog_109, eX6_copyLog_110, eX6_copyLog_111, eX6_copyLog_114, eX6_copyLog_in, zH2_gK, zH2_gR, zH2_at, zH2_sI, zU_ne, P, zMkk P, zMr5 P, zMk5 P, zMr6 P, zMk6 P, zMr7 P, zMk7 P, cM_isShip (zH2_mk.mpr P), cM_isTray, cM_isFrom, cM_refuse (zH2_mk.mpr P), zH2_ne, zH2_sIne]
    (repeat' split) <;> first | exact hn | (exfalso; omega)
theorem kX0_writeOk {t i x s m : Int} {r : Nat} (K : zXk h) (t0 : 0 ≤ t) (t1 : t < 4) (hr : gR h (67 + t.toNat) 0 = some r) (r0 : 65 ≤ r) (s0 : 0 ≤ s) (s1 : s ≤ 3) (hk : gK h r = (zKd s, m.toNat)) (i0 : 0 ≤ i) (i1 : i < m) (hQ : Q (zRv (zi 1) (fPut (sI h 65 7 0) s r i x))) : zCm mX0_write d [zr (some 65), zi t, zi i, zl x] h Q := by
  have e2 : ∀ x, zXk (sI h 65 7 x) := fun _ => K
  simp (disch := (first | (simp only [gK_sI, gK_sJ, gK_sR, gK_sIA, gK_sJA, gR_sI, gR_sJ, gR_sIA, Nat.reduceLeDiff, Nat.reduceEqDiff, Nat.reduceLT, Int.reduceLE, Int.reduceLT, Int.reduceEq, zWt_i, zWt_l, zWt_r, zWt_n, K, zXkk K, zXh0 K, e2] <;> omega) | omega | fail)) only [if_pos, if_neg, wI_id, zLc_lt, zLc_gt, zLc_eq, zLc_le, zLc_ge, Int.reduceEq, Int.reduceLE, Int.reduceLT, Int.reduceNeg, Int.reduceAdd, Int.reduceMul, Int.reduceSub, not_true_eq_false, not_false_eq_true, reduceIte, zPo_v, zPo_n, zPo_t, zKl_i, zKl_r, zKl_n, zKl_l, gK_sI, gK_sJ, gK_sR, gK_sIA, gK_sJA, gR_sI, gR_sJ, gJ_sI, gI_sJ, gI_sR, gJ_sR, gR_sIA, gJ_sIA, Nat.reduceLeDiff, Nat.reduceEqDiff, and_self, and_true, true_and, and_false, false_and, eX0_write_0, eX0_write_1, eX0_write_2, eX0_write_5, eX0_write_6, eX0_write_7, eX0_write_10, eX0_write_11, eX0_write_12, eX0_write_15, eX0_write_16, eX0_write_17, eX0_write_19, eX0_write_20, eX0_write_21, eX0_write_24, eX0_write_25, eX0_write_26, eX0_write_28, eX0_write_29, eX0_write_31, eX0_write_34, tX0_write_7_3, tX0_write_7_31, tX0_write_12_3, tX0_write_12_31, eX0_write_in, kX0_on_some (e2 0) t0 t1 hr]
  refine kX0_put (s := s) (m := m) r0 s0 s1 (by omega) hk (fun _ => ?_) (fun q => absurd ⟨i0, i1⟩ q)
  simp (disch := (first | (simp only [gK_sI, gK_sJ, gK_sR, gK_sIA, gK_sJA, gR_sI, gR_sJ, gR_sIA, Nat.reduceLeDiff, Nat.reduceEqDiff, Nat.reduceLT, Int.reduceLE, Int.reduceLT, Int.reduceEq, zWt_i, zWt_l, zWt_r, zWt_n] <;> omega) | omega | fail)) only [if_pos, if_neg, wI_id, zLc_lt, zLc_gt, zLc_eq, zLc_le, zLc_ge, Int.reduceEq, Int.reduceLE, Int.reduceLT, Int.reduceNeg, Int.reduceAdd, Int.reduceMul, Int.reduceSub, not_true_eq_false, not_false_eq_true, reduceIte, zPo_v, zPo_n, zPo_t, zKl_i, zKl_r, zKl_n, zKl_l, gK_sI, gK_sJ, gK_sR, gK_sIA, gK_sJA, gR_sI, gR_sJ, gJ_sI, gI_sJ, gI_sR, gJ_sR, gR_sIA, gJ_sIA, Nat.reduceLeDiff, Nat.reduceEqDiff, and_self, and_true, true_and, and_false, false_and, eX0_write_0, eX0_write_1, eX0_write_2, eX0_write_5, eX0_write_6, eX0_write_7, eX0_write_10, eX0_write_11, eX0_write_12, eX0_write_15, eX0_write_16, eX0_write_17, eX0_write_19, eX0_write_20, eX0_write_21, eX0_write_24, eX0_write_25, eX0_write_26, eX0_write_28, eX0_write_29, eX0_write_31, eX0_write_34, tX0_write_7_3, tX0_write_7_31, tX0_write_12_3, tX0_write_12_31, eX0_write_in]
  exact hQ
theorem jO_copyLog {s t n : Int} : zOp zi d mX0_copyLog mX6_copyLog [zi s, zi t, zi n] := fun Q h a nm R k => by
  have K := zRxk R
  have v := zRiv R
  have P := zRpw R
  have PM := zRmk R
  have bs := (zIships v).2
  have e2 : ∀ x, zXk (sI h 65 7 x) := fun _ => K
  have e3 : ∀ w, zXk (sI (sI h 65 7 0) 73 6 w) := fun _ => K
  have k6 := zXk6 K
  have P0 : zPw (sI h 65 7 0) 75 a nm := zPw_st v P K
  have ea : ∀ w, gI (sI (sI h 73 6 w) 65 7 w) 114 = a := fun w => by rw [gI_sI_ne (by decide), gI_sI_ne (by decide)]; exact zRat R
  have bad : ∀ w, w ≠ 0 → fWc a (gI h 117 t) s t n = w → Q (zRv (zi (-1)) (sI (sI (sI h 65 7 0) 73 6 w) 65 7 w)) := fun w w0 ew => by
    have h9 := zJ_ref (x := -1) (w := w) (y := w) R (MM := mX6_copyLog) (as := [zi s, zi t, zi n]) (fun Q2 q => by
      rw [← zH2_me (ea w)]
      have ef : fWc a (gI (sI (sI h 73 6 w) 65 7 w) 117 t) s t n = w := by
        rw [gI_sI_ne (by decide), gI_sI_ne (by decide)]
        exact ew
      refine cM_copyLog (h := sI (sI h 73 6 w) 65 7 w) PM v (fun q9 => absurd (ef.symm.trans q9) w0) (fun _ => ?_) (fun q9 => absurd (ef.symm.trans q9) w0)
      rw [ef, ← zH2_sIne (by decide) (by decide), zH2_me (ea w)]
      exact q) k
    rw [← zX_ref] at h9
    exact h9
  have u1 : gI (sI h 65 7 0) 117 = gI h 117 := gI_sI_ne (by decide)
  by_cases c1 : 0 ≤ s ∧ s < a 3
  · simp (disch := (first | (simp only [gK_sI, gK_sJ, gK_sR, gK_sIA, gK_sJA, gR_sI, gR_sJ, gR_sIA, Nat.reduceLeDiff, Nat.reduceEqDiff, Nat.reduceLT, Int.reduceLE, Int.reduceLT, Int.reduceEq, zWt_i, zWt_l, zWt_r, zWt_n, K, zXkk K, zXr13 K, zXh0 K, e2, k6] <;> omega) | omega | fail)) only [if_pos, if_neg, wI_id, zLc_lt, zLc_gt, zLc_eq, zLc_le, zLc_ge, Int.reduceEq, Int.reduceLE, Int.reduceLT, Int.reduceNeg, Int.reduceAdd, Int.reduceMul, Int.reduceSub, not_true_eq_false, not_false_eq_true, reduceIte, zPo_v, zPo_n, zPo_t, zKl_i, zKl_r, zKl_n, zKl_l, gK_sI, gK_sJ, gK_sR, gK_sIA, gK_sJA, gR_sI, gR_sJ, gJ_sI, gI_sJ, gI_sR, gJ_sR, gR_sIA, gJ_sIA, Nat.reduceLeDiff, Nat.reduceEqDiff, and_self, and_true, true_and, and_false, false_and, eX0_copyLog_0, eX0_copyLog_1, eX0_copyLog_2, eX0_copyLog_5, eX0_copyLog_6, eX0_copyLog_7, eX0_copyLog_8, eX0_copyLog_11, eX0_copyLog_12, eX0_copyLog_15, eX0_copyLog_16, eX0_copyLog_17, eX0_copyLog_18, eX0_copyLog_21, eX0_copyLog_22, eX0_copyLog_25, eX0_copyLog_27, eX0_copyLog_28, eX0_copyLog_30, eX0_copyLog_33, eX0_copyLog_34, eX0_copyLog_35, eX0_copyLog_38, eX0_copyLog_39, eX0_copyLog_42, eX0_copyLog_45, eX0_copyLog_46, eX0_copyLog_50, eX0_copyLog_51, eX0_copyLog_54, eX0_copyLog_55, eX0_copyLog_56, eX0_copyLog_58, eX0_copyLog_59, eX0_copyLog_62, eX0_copyLog_63, eX0_copyLog_66, eX0_copyLog_67, eX0_copyLog_70, eX0_copyLog_71, eX0_copyLog_72, eX0_copyLog_75, eX0_copyLog_76, eX0_copyLog_79, eX0_copyLog_82, eX0_copyLog_85, eX0_copyLog_86, tX0_copyLog_8_3, tX0_copyLog_12_3, tX0_copyLog_18_3, eX0_copyLog_in, kX0_isShip (e2 0) v P0, c1, kX0_want1]
    refine kX0_logOn (e2 0) (zTn_of R) (fun q => ?_) (fun z1 z2 q => ?_) (fun z1 z2 z3 q => ?_) (fun _ z1 z2 z3 z4 _ => ?_)
    · simp (disch := (first | (simp only [gK_sI, gK_sJ, gK_sR, gK_sIA, gK_sJA, gR_sI, gR_sJ, gR_sIA, Nat.reduceLeDiff, Nat.reduceEqDiff, Nat.reduceLT, Int.reduceLE, Int.reduceLT, Int.reduceEq, zWt_i, zWt_l, zWt_r, zWt_n, K, zXkk K, zXr13 K, zXh0 K, e2, k6] <;> omega) | omega | fail)) only [if_pos, if_neg, wI_id, zLc_lt, zLc_gt, zLc_eq, zLc_le, zLc_ge, Int.reduceEq, Int.reduceLE, Int.reduceLT, Int.reduceNeg, Int.reduceAdd, Int.reduceMul, Int.reduceSub, not_true_eq_false, not_false_eq_true, reduceIte, zPo_v, zPo_n, zPo_t, zKl_i, zKl_r, zKl_n, zKl_l, gK_sI, gK_sJ, gK_sR, gK_sIA, gK_sJA, gR_sI, gR_sJ, gJ_sI, gI_sJ, gI_sR, gJ_sR, gR_sIA, gJ_sIA, Nat.reduceLeDiff, Nat.reduceEqDiff, and_self, and_true, true_and, and_false, false_and, eX0_copyLog_0, eX0_copyLog_1, eX0_copyLog_2, eX0_copyLog_5, eX0_copyLog_6, eX0_copyLog_7, eX0_copyLog_8, eX0_copyLog_11, eX0_copyLog_12, eX0_copyLog_15, eX0_copyLog_16, eX0_copyLog_17, eX0_copyLog_18, eX0_copyLog_21, eX0_copyLog_22, eX0_copyLog_25, eX0_copyLog_27, eX0_copyLog_28, eX0_copyLog_30, eX0_copyLog_33, eX0_copyLog_34, eX0_copyLog_35, eX0_copyLog_38, eX0_copyLog_39, eX0_copyLog_42, eX0_copyLog_45, eX0_copyLog_46, eX0_copyLog_50, eX0_copyLog_51, eX0_copyLog_54, eX0_copyLog_55, eX0_copyLog_56, eX0_copyLog_58, eX0_copyLog_59, eX0_copyLog_62, eX0_copyLog_63, eX0_copyLog_66, eX0_copyLog_67, eX0_copyLog_70, eX0_copyLog_71, eX0_copyLog_72, eX0_copyLog_75, eX0_copyLog_76, eX0_copyLog_79, eX0_copyLog_82, eX0_copyLog_85, eX0_copyLog_86, tX0_copyLog_8_3, tX0_copyLog_12_3, tX0_copyLog_18_3, eX0_copyLog_in, kX0_none (e3 1), gI_sI_eq, zU_eq]
      exact bad 1 (by decide) (if_neg (fun w => q ⟨w.2.2, w.2.1⟩))
    · simp (disch := (first | (simp only [gK_sI, gK_sJ, gK_sR, gK_sIA, gK_sJA, gR_sI, gR_sJ, gR_sIA, Nat.reduceLeDiff, Nat.reduceEqDiff, Nat.reduceLT, Int.reduceLE, Int.reduceLT, Int.reduceEq, zWt_i, zWt_l, zWt_r, zWt_n, K, zXkk K, zXr13 K, zXh0 K, e2, k6] <;> omega) | omega | fail)) only [if_pos, if_neg, wI_id, zLc_lt, zLc_gt, zLc_eq, zLc_le, zLc_ge, Int.reduceEq, Int.reduceLE, Int.reduceLT, Int.reduceNeg, Int.reduceAdd, Int.reduceMul, Int.reduceSub, not_true_eq_false, not_false_eq_true, reduceIte, zPo_v, zPo_n, zPo_t, zKl_i, zKl_r, zKl_n, zKl_l, gK_sI, gK_sJ, gK_sR, gK_sIA, gK_sJA, gR_sI, gR_sJ, gJ_sI, gI_sJ, gI_sR, gJ_sR, gR_sIA, gJ_sIA, Nat.reduceLeDiff, Nat.reduceEqDiff, and_self, and_true, true_and, and_false, false_and, eX0_copyLog_0, eX0_copyLog_1, eX0_copyLog_2, eX0_copyLog_5, eX0_copyLog_6, eX0_copyLog_7, eX0_copyLog_8, eX0_copyLog_11, eX0_copyLog_12, eX0_copyLog_15, eX0_copyLog_16, eX0_copyLog_17, eX0_copyLog_18, eX0_copyLog_21, eX0_copyLog_22, eX0_copyLog_25, eX0_copyLog_27, eX0_copyLog_28, eX0_copyLog_30, eX0_copyLog_33, eX0_copyLog_34, eX0_copyLog_35, eX0_copyLog_38, eX0_copyLog_39, eX0_copyLog_42, eX0_copyLog_45, eX0_copyLog_46, eX0_copyLog_50, eX0_copyLog_51, eX0_copyLog_54, eX0_copyLog_55, eX0_copyLog_56, eX0_copyLog_58, eX0_copyLog_59, eX0_copyLog_62, eX0_copyLog_63, eX0_copyLog_66, eX0_copyLog_67, eX0_copyLog_70, eX0_copyLog_71, eX0_copyLog_72, eX0_copyLog_75, eX0_copyLog_76, eX0_copyLog_79, eX0_copyLog_82, eX0_copyLog_85, eX0_copyLog_86, tX0_copyLog_8_3, tX0_copyLog_12_3, tX0_copyLog_18_3, eX0_copyLog_in, kX0_none (e3 2), gI_sI_eq, zU_eq]
      refine bad 2 (by decide) ?_
      unfold fWc
      rw [if_pos ⟨c1, z2, z1⟩, if_pos (by rw [← u1]; exact q)]
    · simp (disch := (first | (simp only [gK_sI, gK_sJ, gK_sR, gK_sIA, gK_sJA, gR_sI, gR_sJ, gR_sIA, Nat.reduceLeDiff, Nat.reduceEqDiff, Nat.reduceLT, Int.reduceLE, Int.reduceLT, Int.reduceEq, zWt_i, zWt_l, zWt_r, zWt_n, K, zXkk K, zXr13 K, zXh0 K, e2, k6] <;> omega) | omega | fail)) only [if_pos, if_neg, wI_id, zLc_lt, zLc_gt, zLc_eq, zLc_le, zLc_ge, Int.reduceEq, Int.reduceLE, Int.reduceLT, Int.reduceNeg, Int.reduceAdd, Int.reduceMul, Int.reduceSub, not_true_eq_false, not_false_eq_true, reduceIte, zPo_v, zPo_n, zPo_t, zKl_i, zKl_r, zKl_n, zKl_l, gK_sI, gK_sJ, gK_sR, gK_sIA, gK_sJA, gR_sI, gR_sJ, gJ_sI, gI_sJ, gI_sR, gJ_sR, gR_sIA, gJ_sIA, Nat.reduceLeDiff, Nat.reduceEqDiff, and_self, and_true, true_and, and_false, false_and, eX0_copyLog_0, eX0_copyLog_1, eX0_copyLog_2, eX0_copyLog_5, eX0_copyLog_6, eX0_copyLog_7, eX0_copyLog_8, eX0_copyLog_11, eX0_copyLog_12, eX0_copyLog_15, eX0_copyLog_16, eX0_copyLog_17, eX0_copyLog_18, eX0_copyLog_21, eX0_copyLog_22, eX0_copyLog_25, eX0_copyLog_27, eX0_copyLog_28, eX0_copyLog_30, eX0_copyLog_33, eX0_copyLog_34, eX0_copyLog_35, eX0_copyLog_38, eX0_copyLog_39, eX0_copyLog_42, eX0_copyLog_45, eX0_copyLog_46, eX0_copyLog_50, eX0_copyLog_51, eX0_copyLog_54, eX0_copyLog_55, eX0_copyLog_56, eX0_copyLog_58, eX0_copyLog_59, eX0_copyLog_62, eX0_copyLog_63, eX0_copyLog_66, eX0_copyLog_67, eX0_copyLog_70, eX0_copyLog_71, eX0_copyLog_72, eX0_copyLog_75, eX0_copyLog_76, eX0_copyLog_79, eX0_copyLog_82, eX0_copyLog_85, eX0_copyLog_86, tX0_copyLog_8_3, tX0_copyLog_12_3, tX0_copyLog_18_3, eX0_copyLog_in, kX0_none (e3 3), gI_sI_eq, zU_eq]
      refine bad 3 (by decide) ?_
      rw [u1] at z3 q
      unfold fWc
      rw [if_pos ⟨c1, z2, z1⟩, if_neg z3, if_pos q]
    · rw [u1] at z3 z4
      have f0 : fWc a (gI h 117 t) s t n = 0 := by
        unfold fWc
        rw [if_pos ⟨c1, z2, z1⟩, if_neg z3, if_neg (by omega)]
      rcases zRtt R z2.1 z2.2 with ⟨q, -⟩ | ⟨r, hr, -, ⟨m0, m1⟩, ⟨s0, s1⟩, r0, r1, r2, r3⟩
      · exact absurd q z3
      have A9 : zWk h 92 := zRwk R
      have A : zWk (sI h 65 7 0) 92 := A9
      simp (disch := (first | (simp only [gK_sI, gK_sJ, gK_sR, gK_sIA, gK_sJA, gR_sI, gR_sJ, gR_sIA, Nat.reduceLeDiff, Nat.reduceEqDiff, Nat.reduceLT, Int.reduceLE, Int.reduceLT, Int.reduceEq, zWt_i, zWt_l, zWt_r, zWt_n, K, zXkk K, zXr13 K, zXh0 K, e2, A, zWkk A] <;> omega) | omega | fail)) only [if_pos, if_neg, wI_id, zLc_lt, zLc_gt, zLc_eq, zLc_le, zLc_ge, Int.reduceEq, Int.reduceLE, Int.reduceLT, Int.reduceNeg, Int.reduceAdd, Int.reduceMul, Int.reduceSub, not_true_eq_false, not_false_eq_true, reduceIte, zPo_v, zPo_n, zPo_t, zKl_i, zKl_r, zKl_n, zKl_l, gK_sI, gK_sJ, gK_sR, gK_sIA, gK_sJA, gR_sI, gR_sJ, gJ_sI, gI_sJ, gI_sR, gJ_sR, gR_sIA, gJ_sIA, Nat.reduceLeDiff, Nat.reduceEqDiff, and_self, and_true, true_and, and_false, false_and, eX0_copyLog_0, eX0_copyLog_1, eX0_copyLog_2, eX0_copyLog_5, eX0_copyLog_6, eX0_copyLog_7, eX0_copyLog_8, eX0_copyLog_11, eX0_copyLog_12, eX0_copyLog_15, eX0_copyLog_16, eX0_copyLog_17, eX0_copyLog_18, eX0_copyLog_21, eX0_copyLog_22, eX0_copyLog_25, eX0_copyLog_27, eX0_copyLog_28, eX0_copyLog_30, eX0_copyLog_33, eX0_copyLog_34, eX0_copyLog_35, eX0_copyLog_38, eX0_copyLog_39, eX0_copyLog_42, eX0_copyLog_45, eX0_copyLog_46, eX0_copyLog_50, eX0_copyLog_51, eX0_copyLog_54, eX0_copyLog_55, eX0_copyLog_56, eX0_copyLog_58, eX0_copyLog_59, eX0_copyLog_62, eX0_copyLog_63, eX0_copyLog_66, eX0_copyLog_67, eX0_copyLog_70, eX0_copyLog_71, eX0_copyLog_72, eX0_copyLog_75, eX0_copyLog_76, eX0_copyLog_79, eX0_copyLog_82, eX0_copyLog_85, eX0_copyLog_86, tX0_copyLog_8_3, tX0_copyLog_12_3, tX0_copyLog_18_3, eX0_copyLog_in, K, zXkk K, zXr13 K, zXh0 K, kX0_at (e2 0)]
      refine kX_aside A v P0 (fun h1 P1 Q1 S1 E1 => ?_)
      simp (disch := (first | (simp only [gK_sI, gK_sJ, gK_sR, gK_sIA, gK_sJA, gR_sI, gR_sJ, gR_sIA, Nat.reduceLeDiff, Nat.reduceEqDiff, Nat.reduceLT, Int.reduceLE, Int.reduceLT, Int.reduceEq, zWt_i, zWt_l, zWt_r, zWt_n] <;> omega) | omega | fail)) only [if_pos, if_neg, wI_id, zLc_lt, zLc_gt, zLc_eq, zLc_le, zLc_ge, Int.reduceEq, Int.reduceLE, Int.reduceLT, Int.reduceNeg, Int.reduceAdd, Int.reduceMul, Int.reduceSub, not_true_eq_false, not_false_eq_true, reduceIte, zPo_v, zPo_n, zPo_t, zKl_i, zKl_r, zKl_n, zKl_l, gK_sI, gK_sJ, gK_sR, gK_sIA, gK_sJA, gR_sI, gR_sJ, gJ_sI, gI_sJ, gI_sR, gJ_sR, gR_sIA, gJ_sIA, Nat.reduceLeDiff, Nat.reduceEqDiff, and_self, and_true, true_and, and_false, false_and, eX0_copyLog_0, eX0_copyLog_1, eX0_copyLog_2, eX0_copyLog_5, eX0_copyLog_6, eX0_copyLog_7, eX0_copyLog_8, eX0_copyLog_11, eX0_copyLog_12, eX0_copyLog_15, eX0_copyLog_16, eX0_copyLog_17, eX0_copyLog_18, eX0_copyLog_21, eX0_copyLog_22, eX0_copyLog_25, eX0_copyLog_27, eX0_copyLog_28, eX0_copyLog_30, eX0_copyLog_33, eX0_copyLog_34, eX0_copyLog_35, eX0_copyLog_38, eX0_copyLog_39, eX0_copyLog_42, eX0_copyLog_45, eX0_copyLog_46, eX0_copyLog_50, eX0_copyLog_51, eX0_copyLog_54, eX0_copyLog_55, eX0_copyLog_56, eX0_copyLog_58, eX0_copyLog_59, eX0_copyLog_62, eX0_copyLog_63, eX0_copyLog_66, eX0_copyLog_67, eX0_copyLog_70, eX0_copyLog_71, eX0_copyLog_72, eX0_copyLog_75, eX0_copyLog_76, eX0_copyLog_79, eX0_copyLog_82, eX0_copyLog_85, eX0_copyLog_86, tX0_copyLog_8_3, tX0_copyLog_12_3, tX0_copyLog_18_3, eX0_copyLog_in]
      have st1 : gI h1 65 7 = 0 := by rw [E1, gI_sI_eq, zU_eq]
      refine zLoop n (fun i ls h' => 0 ≤ i ∧ zPw h' 75 a nm ∧ zPw h' 92 (fLeakN a s i.toNat) nm ∧ zSx (fCw h (gI h 116 t) r (fun k => fFlN a s (k : Int)) i.toNat) h' ∧ gI h' 65 7 = 0 ∧ ls = [some (zr (some 65)), some (zi s), some (zi t), some (zi n), some (zi i)]) ?_ ?_ 0 _ _ (by omega) ⟨by omega, P1, Q1, zSx_tr (zSx_st zSx_rf) S1, st1, rfl⟩
      · rintro i _ h2 hi ⟨i0, P2, Q2, S2, E2, rfl⟩ k
        have fK := fCw_K (h := h) (s := gI h 116 t) (r := r) (f := fun k => fFlN a s (k : Int)) i.toNat
        have fR := fCw_R (h := h) (s := gI h 116 t) (r := r) (f := fun k => fFlN a s (k : Int)) i.toNat
        have K2 : zXk h2 := by
          have K9 : zXk (fCw h (gI h 116 t) r (fun k => fFlN a s (k : Int)) i.toNat) := by
            unfold zXk at K ⊢
            rw [fK, fR]
            exact K
          exact zXk_sx S2 K9
        have A2 := Q2.2.1
        have es : (i + 1).toNat = i.toNat + 1 := by omega
        rw [eX0_copyLog_48]
        simp (disch := (first | (simp only [gK_sI, gK_sJ, gK_sR, gK_sIA, gK_sJA, gR_sI, gR_sJ, gR_sIA, Nat.reduceLeDiff, Nat.reduceEqDiff, Nat.reduceLT, Int.reduceLE, Int.reduceLT, Int.reduceEq, zWt_i, zWt_l, zWt_r, zWt_n, K2, zXkk K2, zXr13 K2, zXh0 K2, A2, zWkk A2] <;> omega) | omega | fail)) only [if_pos, if_neg, wI_id, zLc_lt, zLc_gt, zLc_eq, zLc_le, zLc_ge, Int.reduceEq, Int.reduceLE, Int.reduceLT, Int.reduceNeg, Int.reduceAdd, Int.reduceMul, Int.reduceSub, not_true_eq_false, not_false_eq_true, reduceIte, zPo_v, zPo_n, zPo_t, zKl_i, zKl_r, zKl_n, zKl_l, gK_sI, gK_sJ, gK_sR, gK_sIA, gK_sJA, gR_sI, gR_sJ, gJ_sI, gI_sJ, gI_sR, gJ_sR, gR_sIA, gJ_sIA, Nat.reduceLeDiff, Nat.reduceEqDiff, and_self, and_true, true_and, and_false, false_and, eX0_copyLog_0, eX0_copyLog_1, eX0_copyLog_2, eX0_copyLog_5, eX0_copyLog_6, eX0_copyLog_7, eX0_copyLog_8, eX0_copyLog_11, eX0_copyLog_12, eX0_copyLog_15, eX0_copyLog_16, eX0_copyLog_17, eX0_copyLog_18, eX0_copyLog_21, eX0_copyLog_22, eX0_copyLog_25, eX0_copyLog_27, eX0_copyLog_28, eX0_copyLog_30, eX0_copyLog_33, eX0_copyLog_34, eX0_copyLog_35, eX0_copyLog_38, eX0_copyLog_39, eX0_copyLog_42, eX0_copyLog_45, eX0_copyLog_46, eX0_copyLog_50, eX0_copyLog_51, eX0_copyLog_54, eX0_copyLog_55, eX0_copyLog_56, eX0_copyLog_58, eX0_copyLog_59, eX0_copyLog_62, eX0_copyLog_63, eX0_copyLog_66, eX0_copyLog_67, eX0_copyLog_70, eX0_copyLog_71, eX0_copyLog_72, eX0_copyLog_75, eX0_copyLog_76, eX0_copyLog_79, eX0_copyLog_82, eX0_copyLog_85, eX0_copyLog_86, tX0_copyLog_8_3, tX0_copyLog_12_3, tX0_copyLog_18_3, eX0_copyLog_in, K2, zXkk K2, zXr13 K2, zXh0 K2]
        refine kX_ruled (zIv_leakN v c1.1 c1.2 _) Q2 c1.1 (by omega) (fun h3 Q3 S3 => ?_)
        have P3 := zPw_far S3 A2 P2 (by omega)
        have S3' := zSx_tr S2 (zSx_a S3)
        have K3 : zXk h3 := zXk_sx (zSx_a S3) K2
        have A3 := Q3.2.1
        rw [fFlN_eq v c1.1 c1.2]
        have hr3 : gR h3 (67 + t.toNat) 0 = some r := by
          rw [S3'.2.2.2.1 _ (by omega), fR]
          exact hr
        have hk3 : gK h3 r = (zKd (gI h 116 t), (gI h 117 t).toNat) := by
          rw [S3'.2.1, fK]
          exact r2
        have b3 := fFlN_b (a := a) (s := s) (n := (i.toNat : Int))
        simp (disch := (first | (simp only [gK_sI, gK_sJ, gK_sR, gK_sIA, gK_sJA, gR_sI, gR_sJ, gR_sIA, Nat.reduceLeDiff, Nat.reduceEqDiff, Nat.reduceLT, Int.reduceLE, Int.reduceLT, Int.reduceEq, zWt_i, zWt_l, zWt_r, zWt_n, K3, zXkk K3, zXr13 K3, zXh0 K3, A3, zWkk A3] <;> omega) | omega | fail)) only [if_pos, if_neg, wI_id, zLc_lt, zLc_gt, zLc_eq, zLc_le, zLc_ge, Int.reduceEq, Int.reduceLE, Int.reduceLT, Int.reduceNeg, Int.reduceAdd, Int.reduceMul, Int.reduceSub, not_true_eq_false, not_false_eq_true, reduceIte, zPo_v, zPo_n, zPo_t, zKl_i, zKl_r, zKl_n, zKl_l, gK_sI, gK_sJ, gK_sR, gK_sIA, gK_sJA, gR_sI, gR_sJ, gJ_sI, gI_sJ, gI_sR, gJ_sR, gR_sIA, gJ_sIA, Nat.reduceLeDiff, Nat.reduceEqDiff, and_self, and_true, true_and, and_false, false_and, eX0_copyLog_0, eX0_copyLog_1, eX0_copyLog_2, eX0_copyLog_5, eX0_copyLog_6, eX0_copyLog_7, eX0_copyLog_8, eX0_copyLog_11, eX0_copyLog_12, eX0_copyLog_15, eX0_copyLog_16, eX0_copyLog_17, eX0_copyLog_18, eX0_copyLog_21, eX0_copyLog_22, eX0_copyLog_25, eX0_copyLog_27, eX0_copyLog_28, eX0_copyLog_30, eX0_copyLog_33, eX0_copyLog_34, eX0_copyLog_35, eX0_copyLog_38, eX0_copyLog_39, eX0_copyLog_42, eX0_copyLog_45, eX0_copyLog_46, eX0_copyLog_50, eX0_copyLog_51, eX0_copyLog_54, eX0_copyLog_55, eX0_copyLog_56, eX0_copyLog_58, eX0_copyLog_59, eX0_copyLog_62, eX0_copyLog_63, eX0_copyLog_66, eX0_copyLog_67, eX0_copyLog_70, eX0_copyLog_71, eX0_copyLog_72, eX0_copyLog_75, eX0_copyLog_76, eX0_copyLog_79, eX0_copyLog_82, eX0_copyLog_85, eX0_copyLog_86, tX0_copyLog_8_3, tX0_copyLog_12_3, tX0_copyLog_18_3, eX0_copyLog_in, K3, zXkk K3, zXr13 K3, zXh0 K3]
        refine kX0_writeOk (s := gI h 116 t) (m := gI h 117 t) K3 z2.1 z2.2 hr3 (by omega) s0 s1 hk3 i0 (by omega) ?_
        have P4 := zPw_put (i := i) (x := fFlN a s (i.toNat : Int)) P3 K3 s0 s1 hk3 (by omega)
        have Q4 := zPw_put (i := i) (x := fFlN a s (i.toNat : Int)) Q3 K3 s0 s1 hk3 (by omega)
        have S4 := zSx_put (s := gI h 116 t) (i := i) (x := fFlN a s (i.toNat : Int)) S3' r0
        have st4 : gI (fPut (sI h3 65 7 0) (gI h 116 t) r i (fFlN a s (i.toNat : Int))) 65 7 = 0 := by
          rw [fPut_I (by omega), gI_sI_eq, zU_eq]
        have K4 : zXk (fPut (sI h3 65 7 0) (gI h 116 t) r i (fFlN a s (i.toNat : Int))) := by
          unfold zXk at K3 ⊢
          rw [fPut_K, fPut_R]
          exact K3
        generalize hX : fPut (sI h3 65 7 0) (gI h 116 t) r i (fFlN a s (i.toNat : Int)) = h4 at P4 Q4 S4 st4 K4
        have A4 := Q4.2.1
        simp (disch := (first | (simp only [gK_sI, gK_sJ, gK_sR, gK_sIA, gK_sJA, gR_sI, gR_sJ, gR_sIA, Nat.reduceLeDiff, Nat.reduceEqDiff, Nat.reduceLT, Int.reduceLE, Int.reduceLT, Int.reduceEq, zWt_i, zWt_l, zWt_r, zWt_n, K4, zXkk K4, zXr13 K4, zXh0 K4, A4, zWkk A4] <;> omega) | omega | fail)) only [if_pos, if_neg, wI_id, zLc_lt, zLc_gt, zLc_eq, zLc_le, zLc_ge, Int.reduceEq, Int.reduceLE, Int.reduceLT, Int.reduceNeg, Int.reduceAdd, Int.reduceMul, Int.reduceSub, not_true_eq_false, not_false_eq_true, reduceIte, zPo_v, zPo_n, zPo_t, zKl_i, zKl_r, zKl_n, zKl_l, gK_sI, gK_sJ, gK_sR, gK_sIA, gK_sJA, gR_sI, gR_sJ, gJ_sI, gI_sJ, gI_sR, gJ_sR, gR_sIA, gJ_sIA, Nat.reduceLeDiff, Nat.reduceEqDiff, and_self, and_true, true_and, and_false, false_and, eX0_copyLog_0, eX0_copyLog_1, eX0_copyLog_2, eX0_copyLog_5, eX0_copyLog_6, eX0_copyLog_7, eX0_copyLog_8, eX0_copyLog_11, eX0_copyLog_12, eX0_copyLog_15, eX0_copyLog_16, eX0_copyLog_17, eX0_copyLog_18, eX0_copyLog_21, eX0_copyLog_22, eX0_copyLog_25, eX0_copyLog_27, eX0_copyLog_28, eX0_copyLog_30, eX0_copyLog_33, eX0_copyLog_34, eX0_copyLog_35, eX0_copyLog_38, eX0_copyLog_39, eX0_copyLog_42, eX0_copyLog_45, eX0_copyLog_46, eX0_copyLog_50, eX0_copyLog_51, eX0_copyLog_54, eX0_copyLog_55, eX0_copyLog_56, eX0_copyLog_58, eX0_copyLog_59, eX0_copyLog_62, eX0_copyLog_63, eX0_copyLog_66, eX0_copyLog_67, eX0_copyLog_70, eX0_copyLog_71, eX0_copyLog_72, eX0_copyLog_75, eX0_copyLog_76, eX0_copyLog_79, eX0_copyLog_82, eX0_copyLog_85, eX0_copyLog_86, tX0_copyLog_8_3, tX0_copyLog_12_3, tX0_copyLog_18_3, eX0_copyLog_in, K4, zXkk K4, zXr13 K4, zXh0 K4]
        refine kX_leakA v (zIv_leakN v c1.1 c1.2 _) P4 Q4 c1.1 (by omega) (fun h5 P5 Q5 S5 E5 => ?_)
        simp (disch := (first | (simp only [gK_sI, gK_sJ, gK_sR, gK_sIA, gK_sJA, gR_sI, gR_sJ, gR_sIA, Nat.reduceLeDiff, Nat.reduceEqDiff, Nat.reduceLT, Int.reduceLE, Int.reduceLT, Int.reduceEq, zWt_i, zWt_l, zWt_r, zWt_n] <;> omega) | omega | fail)) only [if_pos, if_neg, wI_id, zLc_lt, zLc_gt, zLc_eq, zLc_le, zLc_ge, Int.reduceEq, Int.reduceLE, Int.reduceLT, Int.reduceNeg, Int.reduceAdd, Int.reduceMul, Int.reduceSub, not_true_eq_false, not_false_eq_true, reduceIte, zPo_v, zPo_n, zPo_t, zKl_i, zKl_r, zKl_n, zKl_l, gK_sI, gK_sJ, gK_sR, gK_sIA, gK_sJA, gR_sI, gR_sJ, gJ_sI, gI_sJ, gI_sR, gJ_sR, gR_sIA, gJ_sIA, Nat.reduceLeDiff, Nat.reduceEqDiff, and_self, and_true, true_and, and_false, false_and, eX0_copyLog_0, eX0_copyLog_1, eX0_copyLog_2, eX0_copyLog_5, eX0_copyLog_6, eX0_copyLog_7, eX0_copyLog_8, eX0_copyLog_11, eX0_copyLog_12, eX0_copyLog_15, eX0_copyLog_16, eX0_copyLog_17, eX0_copyLog_18, eX0_copyLog_21, eX0_copyLog_22, eX0_copyLog_25, eX0_copyLog_27, eX0_copyLog_28, eX0_copyLog_30, eX0_copyLog_33, eX0_copyLog_34, eX0_copyLog_35, eX0_copyLog_38, eX0_copyLog_39, eX0_copyLog_42, eX0_copyLog_45, eX0_copyLog_46, eX0_copyLog_50, eX0_copyLog_51, eX0_copyLog_54, eX0_copyLog_55, eX0_copyLog_56, eX0_copyLog_58, eX0_copyLog_59, eX0_copyLog_62, eX0_copyLog_63, eX0_copyLog_66, eX0_copyLog_67, eX0_copyLog_70, eX0_copyLog_71, eX0_copyLog_72, eX0_copyLog_75, eX0_copyLog_76, eX0_copyLog_79, eX0_copyLog_82, eX0_copyLog_85, eX0_copyLog_86, tX0_copyLog_8_3, tX0_copyLog_12_3, tX0_copyLog_18_3, eX0_copyLog_in]
        have eI : ((i.toNat : Nat) : Int) = i := Int.toNat_of_nonneg i0
        refine k _ _ ⟨by omega, P5, by rw [es]; exact Q5, ?_, by rw [E5]; exact st4, rfl⟩
        rw [es]
        refine zSx_tr ?_ S5
        show zSx (fPut (fCw h (gI h 116 t) r (fun k => fFlN a s (k : Int)) i.toNat) (gI h 116 t) r ((i.toNat : Nat) : Int) (fFlN a s ((i.toNat : Nat) : Int))) h4
        rw [eI]
        rw [eI] at S4
        exact S4
      · rintro _ H1 ⟨-, P2, Q2, S2, E2, rfl⟩
        rw [eX0_copyLog_48]
        simp (disch := (first | (simp only [gK_sI, gK_sJ, gK_sR, gK_sIA, gK_sJA, gR_sI, gR_sJ, gR_sIA, Nat.reduceLeDiff, Nat.reduceEqDiff, Nat.reduceLT, Int.reduceLE, Int.reduceLT, Int.reduceEq, zWt_i, zWt_l, zWt_r, zWt_n] <;> omega) | omega | fail)) only [if_pos, if_neg, wI_id, zLc_lt, zLc_gt, zLc_eq, zLc_le, zLc_ge, Int.reduceEq, Int.reduceLE, Int.reduceLT, Int.reduceNeg, Int.reduceAdd, Int.reduceMul, Int.reduceSub, not_true_eq_false, not_false_eq_true, reduceIte, zPo_v, zPo_n, zPo_t, zKl_i, zKl_r, zKl_n, zKl_l, gK_sI, gK_sJ, gK_sR, gK_sIA, gK_sJA, gR_sI, gR_sJ, gJ_sI, gI_sJ, gI_sR, gJ_sR, gR_sIA, gJ_sIA, Nat.reduceLeDiff, Nat.reduceEqDiff, and_self, and_true, true_and, and_false, false_and, eX0_copyLog_0, eX0_copyLog_1, eX0_copyLog_2, eX0_copyLog_5, eX0_copyLog_6, eX0_copyLog_7, eX0_copyLog_8, eX0_copyLog_11, eX0_copyLog_12, eX0_copyLog_15, eX0_copyLog_16, eX0_copyLog_17, eX0_copyLog_18, eX0_copyLog_21, eX0_copyLog_22, eX0_copyLog_25, eX0_copyLog_27, eX0_copyLog_28, eX0_copyLog_30, eX0_copyLog_33, eX0_copyLog_34, eX0_copyLog_35, eX0_copyLog_38, eX0_copyLog_39, eX0_copyLog_42, eX0_copyLog_45, eX0_copyLog_46, eX0_copyLog_50, eX0_copyLog_51, eX0_copyLog_54, eX0_copyLog_55, eX0_copyLog_56, eX0_copyLog_58, eX0_copyLog_59, eX0_copyLog_62, eX0_copyLog_63, eX0_copyLog_66, eX0_copyLog_67, eX0_copyLog_70, eX0_copyLog_71, eX0_copyLog_72, eX0_copyLog_75, eX0_copyLog_76, eX0_copyLog_79, eX0_copyLog_82, eX0_copyLog_85, eX0_copyLog_86, tX0_copyLog_8_3, tX0_copyLog_12_3, tX0_copyLog_18_3, eX0_copyLog_in]
        have fK := fCw_K (h := h) (s := gI h 116 t) (r := r) (f := fun k => fFlN a s (k : Int)) n.toNat
        have fR := fCw_R (h := h) (s := gI h 116 t) (r := r) (f := fun k => fFlN a s (k : Int)) n.toNat
        have f1 := fCw_1 (h := h) (s := gI h 116 t) (r := r) (f := fun k => fFlN a s (k : Int)) n.toNat
        have fI : ∀ b, b ≠ r → gI (fCw h (gI h 116 t) r (fun k => fFlN a s (k : Int)) n.toNat) b = gI h b := fun b hb => fCw_I hb _
        have fJ : ∀ b, b ≠ r → gJ (fCw h (gI h 116 t) r (fun k => fFlN a s (k : Int)) n.toNat) b = gJ h b := fun b hb => fCw_J hb _
        have fV : ∀ j, 0 ≤ j → zTv (fCw h (gI h 116 t) r (fun k => fFlN a s (k : Int)) n.toNat) (gI h 116 t) r j = if j < (n.toNat : Nat) then fCut (gI h 116 t) (fFlN a s ((j.toNat : Nat) : Int)) else zTv h (gI h 116 t) r j := fun j j0 => fCw_V j0 _
        generalize fCw h (gI h 116 t) r (fun k => fFlN a s (k : Int)) n.toNat = hw at S2 fK fR f1 fI fJ fV
        have n129 : ∀ b, b < 129 → b ≠ r := fun b hb => by omega
        have I116 : gI H1 116 = gI h 116 := (S2.2.2.2.2.2.1 116 (by decide) (by decide)).trans (fI 116 (n129 _ (by decide)))
        have I117 : gI H1 117 = gI h 117 := (S2.2.2.2.2.2.1 117 (by decide) (by decide)).trans (fI 117 (n129 _ (by decide)))
        have J118 : gJ H1 118 = gJ h 118 := (congrFun S2.2.2.1 118).trans (fJ 118 (n129 _ (by decide)))
        have PM1 : zMk H1 := by
          have q : zMk hw := by
            unfold zMk at PM ⊢
            rw [fK, fR]
            exact PM
          exact zMk_sx S2 q
        have eaH : gI H1 114 = a := ((S2.2.2.2.2.2.1 114 (by decide) (by decide)).trans (fI 114 (n129 _ (by decide)))).trans (zRat R)
        have zsc : zSc h H1 := ⟨(S2.2.2.2.2.2.1 0 (by decide) (by decide)).trans (fI 0 (n129 _ (by decide))), by rw [S2.2.1, fK], by rw [S2.2.1, fK]⟩
        refine k n H1 zsc (fun Q2 q2 => ?_)
        rw [← zH2_me eaH]
        refine cM_copyLog PM1 v (fun _ => by rw [I116]; exact ⟨s0, s1⟩) (fun q => absurd (by rw [I117]; exact f0) q) (fun _ g => ?_)
        rw [I116, J118]
        generalize hV : fCl (gJ h 118) (gI h 116 t) t (fun k => fFlN a s (k : Int)) n = V
        have rowr : zRow h r := ⟨t, z2.1, z2.2, hr⟩
        have RS : zRl (sJA hw 118 V) a nm := by
          refine zR_rows R (by show hw.1.1 = h.1.1; rw [f1]) fK fR (fun b _ _ _ b4 => fI b (fun e => b4 (e ▸ rowr))) (fun b b1 b2 => (gJ_sJA_ne b1).trans (fJ b (fun e => b2 (e ▸ rowr)))) (fun j _ => congrFun (fI 65 (n129 _ (by decide))) j) (fun j _ => congrFun (fI 113 (n129 _ (by decide))) j) (fI 71 (n129 _ (by decide))) ?_ (fun u u0 u1 r' hr' kk k0 k1 => ?_)
          · show gI hw 65 7 = gI hw 113 2
            rw [fI 65 (n129 _ (by decide)), fI 113 (n129 _ (by decide))]
            exact zRst R
          · have h129 : 129 ≤ r' := (zRow_f R ⟨u, u0, u1, hr'⟩).1
            have ezt : ∀ s', zTv (sJA hw 118 V) s' r' kk = zTv hw s' r' kk := fun s' => zTv_of rfl (gJ_sJA_ne (by omega))
            rw [ezt, gJ_sJA_eq, ← hV]
            unfold fCl
            by_cases cu : u = t
            · subst cu
              have er : r' = r := Option.some.inj (hr'.symm.trans hr)
              subst er
              rw [fV kk k0]
              by_cases ck : kk < (n.toNat : Nat)
              · rw [if_pos ck, if_pos (by omega), show 60 * u + kk - 60 * u = kk by omega]
              · rw [if_neg ck, if_neg (by omega)]
                exact r3 kk k0 k1
            · have ne : r' ≠ r := fun e => (zRtr R).2 u t u0 u1 z2.1 z2.2 cu r' hr' (e ▸ hr)
              have hmu : gI h 117 u ≤ 60 := by
                rcases (zRtr R).1 u u0 u1 with ⟨q, -⟩ | ⟨_, _, q, -⟩
                · omega
                · exact q.2
              rw [if_neg (by omega), zTv_of (fI r' ne) (fJ r' ne)]
              rcases (zRtr R).1 u u0 u1 with ⟨-, q⟩ | ⟨r9, q1, q2⟩
              · rw [q] at hr'
                cases hr'
              · have er : r' = r9 := Option.some.inj (hr'.symm.trans q1)
                subst er
                exact q2.2.2.2.2.2 kk k0 k1
        have SS : zSx (sJA hw 118 V) (sJA H1 118 V) := ⟨S2.1, S2.2.1, by
          funext b
          by_cases e : b = 118
          · subst e
            rw [gJ_sJA_eq, gJ_sJA_eq]
          · rw [gJ_sJA_ne e, gJ_sJA_ne e, S2.2.2.1], S2.2.2.2.1, S2.2.2.2.2.1, S2.2.2.2.2.2.1, S2.2.2.2.2.2.2⟩
        have PP : zPw (sJA H1 118 V) 75 a nm := zPw_fr P2 (fun _ _ => rfl) (fun _ _ => rfl) (fun b b1 _ _ => gJ_sJA_ne (fun e => by
          rw [e, zMk7 PM1] at b1
          exact absurd b1 (by decide))) (fun _ _ => rfl)
        have R9 := zR_step (g := g) (st := 0) RS SS PP v zSs_rf E2 (zSm_sI (j := 2) (x := 0) zSm_rf (by decide)) (by rw [gI_sI_eq, zU_eq])
        refine q2 _ a nm R9 ⟨?_, ?_, ?_⟩ (zBu_0 ?_)
        · rw [zH2_ne (by decide) (by decide), gI_sI_ne (by decide)]
          exact zsc.1
        · exact zsc.2.1
        · exact zsc.2.2
        · exact S2.1.trans f1
  · simp (disch := (first | (simp only [gK_sI, gK_sJ, gK_sR, gK_sIA, gK_sJA, gR_sI, gR_sJ, gR_sIA, Nat.reduceLeDiff, Nat.reduceEqDiff, Nat.reduceLT, Int.reduceLE, Int.reduceLT, Int.reduceEq, zWt_i, zWt_l, zWt_r, zWt_n, K, zXkk K, zXr13 K, zXh0 K, e2, k6] <;> omega) | omega | fail)) only [if_pos, if_neg, wI_id, zLc_lt, zLc_gt, zLc_eq, zLc_le, zLc_ge, Int.reduceEq, Int.reduceLE, Int.reduceLT, Int.reduceNeg, Int.reduceAdd, Int.reduceMul, Int.reduceSub, not_true_eq_false, not_false_eq_true, reduceIte, zPo_v, zPo_n, zPo_t, zKl_i, zKl_r, zKl_n, zKl_l, gK_sI, gK_sJ, gK_sR, gK_sIA, gK_sJA, gR_sI, gR_sJ, gJ_sI, gI_sJ, gI_sR, gJ_sR, gR_sIA, gJ_sIA, Nat.reduceLeDiff, Nat.reduceEqDiff, and_self, and_true, true_and, and_false, false_and, eX0_copyLog_0, eX0_copyLog_1, eX0_copyLog_2, eX0_copyLog_5, eX0_copyLog_6, eX0_copyLog_7, eX0_copyLog_8, eX0_copyLog_11, eX0_copyLog_12, eX0_copyLog_15, eX0_copyLog_16, eX0_copyLog_17, eX0_copyLog_18, eX0_copyLog_21, eX0_copyLog_22, eX0_copyLog_25, eX0_copyLog_27, eX0_copyLog_28, eX0_copyLog_30, eX0_copyLog_33, eX0_copyLog_34, eX0_copyLog_35, eX0_copyLog_38, eX0_copyLog_39, eX0_copyLog_42, eX0_copyLog_45, eX0_copyLog_46, eX0_copyLog_50, eX0_copyLog_51, eX0_copyLog_54, eX0_copyLog_55, eX0_copyLog_56, eX0_copyLog_58, eX0_copyLog_59, eX0_copyLog_62, eX0_copyLog_63, eX0_copyLog_66, eX0_copyLog_67, eX0_copyLog_70, eX0_copyLog_71, eX0_copyLog_72, eX0_copyLog_75, eX0_copyLog_76, eX0_copyLog_79, eX0_copyLog_82, eX0_copyLog_85, eX0_copyLog_86, tX0_copyLog_8_3, tX0_copyLog_12_3, tX0_copyLog_18_3, eX0_copyLog_in, kX0_isShip (e2 0) v P0, c1, kX0_want0 (e2 0), kX0_none (e3 1), gI_sI_eq, zU_eq]
    exact bad 1 (by decide) (if_neg (fun w => c1 w.1))
end O36
