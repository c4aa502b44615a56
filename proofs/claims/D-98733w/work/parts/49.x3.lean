/-! ===== A WORLD OF THE COMPONENT, 3: its picture when it changes ===== -/
set_option maxRecDepth 100000
theorem gI_sI_at {h : zHp} {b c : Nat} {j v k : Int} : gI (sI h b j v) c k = if c = b then (if k = j then v else gI h b k) else gI h c k := by
  by_cases e : c = b
  · subst e
    rw [gI_sI_eq, if_pos rfl]
    rfl
  · rw [gI_sI_ne e, if_neg e]
theorem gI_sIA_at {h : zHp} {b c : Nat} {f : Int → Int} {k : Int} : gI (sIA h b f) c k = if c = b then f k else gI h c k := by
  by_cases e : c = b
  · subst e
    rw [gI_sIA_eq, if_pos rfl]
  · rw [gI_sIA_ne e, if_neg e]
/-- places of a slot that no deed changes -/
def zStc (k : Int) : Prop := (0 ≤ k ∧ k < 4) ∨ (8 ≤ k ∧ k < 32 ∧ k % 4 ≠ 3) ∨ (32 ≤ k ∧ k < 56) ∨ (56 ≤ k ∧ k < 146 ∧ (k - 56) % 15 = 0) ∨ (146 ≤ k ∧ k < 206 ∧ (k - 146) % 15 = 3)
theorem zPw_upd {h h' : zHp} {w : Nat} {a b nm : Int → Int} (v : zIv a) (P : zPw h w a nm) (hk : gK h' = gK h) (hr : gR h' = gR h) (hj : gJ h' = gJ h) (hi : ∀ b, (gK h b).1 = 0 → (gK h b).2 ≠ 5 → gI h' b = gI h b) (hs : ∀ k, zStc k → b k = a k) (hn : zPn h' w b) : zPw h' w b nm := by
  obtain ⟨hw, W, P, o1, o2, o3, o4⟩ := P
  have hs : ∀ k, ((0 ≤ k ∧ k < 4) ∨ (8 ≤ k ∧ k < 32 ∧ k % 4 ≠ 3) ∨ (32 ≤ k ∧ k < 56) ∨ (56 ≤ k ∧ k < 146 ∧ (k - 56) % 15 = 0) ∨ (146 ≤ k ∧ k < 206 ∧ (k - 146) % 15 = 3)) → b k = a k := hs
  have b0 := hs 0 (by omega)
  have b1 := hs 1 (by omega)
  have b2 := hs 2 (by omega)
  have b3 := hs 3 (by omega)
  have g0 := (zIgd v).1
  have g1 := (zIgd v).2.1
  have g2 := zIports v
  have g3 := zIships v
  refine ⟨hw, ?_, hn, ?_, ?_, ?_, ?_⟩
  · unfold zWk at W ⊢
    rw [hk, hr]
    exact W
  · obtain ⟨N, n1, n2, n3⟩ := zOb1_int hk hr hj hi o1
    refine ⟨N, n1, n2, fun k k0 k1 => ?_⟩
    rw [b0] at k1
    rw [hs _ (by omega), hs _ (by omega), hs _ (by omega)]
    exact n3 k k0 k1
  · obtain ⟨N, n1, n2, n3⟩ := zOb2_int hk hr hj hi o2
    refine ⟨N, n1, n2, fun k k0 k1 => ?_⟩
    rw [b1] at k1
    rw [hs _ (by omega), hs _ (by omega), hs _ (by omega)]
    exact n3 k k0 k1
  · obtain ⟨N, n1, n2, n3⟩ := zOb3_int hk hr hj hi o3
    refine ⟨N, n1, n2, fun k k0 k1 => ?_⟩
    rw [b2] at k1
    rw [hs _ (by omega)]
    exact n3 k k0 k1
  · obtain ⟨N, n1, n2, n3⟩ := zOb4_int hk hr hj hi o4
    refine ⟨N, n1, n2, fun k k0 k1 => ?_⟩
    rw [b3] at k1
    rw [hs _ (by omega)]
    exact n3 k k0 k1
section X3
variable {d w : Nat} {h : zHp} {Q : zRs → Prop} {a nm : Int → Int}
theorem zPw_coin {s x : Int} (v : zIv a) (P : zPw h w a nm) (h0 : 0 ≤ s) (h1 : s < 4) : zPw (sI h (w + 11) s x) w (zU a (150 + 15 * s) x) nm := by
  have kk := zWk16 P.2.1
  refine zPw_upd v P rfl rfl rfl (fun b hb _ => gI_sI_ne (fun e => by rw [e, kk] at hb; cases hb)) (fun k hk => zU_ne (by unfold zStc at hk; omega)) ?_
  obtain ⟨p0, p1, p2, p3, p4, p5, p6, p7, p8, p9, p10, p11⟩ := P.2.2.1
  refine ⟨?_, ?_, ?_, ?_, ?_, ?_, fun n n0 n1 => ?_, fun p g p0 p1 g0 g1 => ?_, fun p q p0 p1 q0 q1 => ?_, fun t t0 t1 => ?_, fun t t0 t1 => ?_, fun t g t0 t1 g0 g1 => ?_⟩
  · (first | assumption | (simp (disch := omega) only [zU_ne, zU_eq, gI_sI_ne, gI_sI_eq, gI_sIA_ne, gI_sIA_eq] <;> first | assumption | omega) | (simp only [gI_sI_at, gI_sIA_at, zU, reduceIte] <;> (repeat' split) <;> first | assumption | omega))
  · (first | assumption | (simp (disch := omega) only [zU_ne, zU_eq, gI_sI_ne, gI_sI_eq, gI_sIA_ne, gI_sIA_eq] <;> first | assumption | omega) | (simp only [gI_sI_at, gI_sIA_at, zU, reduceIte] <;> (repeat' split) <;> first | assumption | omega))
  · (first | assumption | (simp (disch := omega) only [zU_ne, zU_eq, gI_sI_ne, gI_sI_eq, gI_sIA_ne, gI_sIA_eq] <;> first | assumption | omega) | (simp only [gI_sI_at, gI_sIA_at, zU, reduceIte] <;> (repeat' split) <;> first | assumption | omega))
  · (first | assumption | (simp (disch := omega) only [zU_ne, zU_eq, gI_sI_ne, gI_sI_eq, gI_sIA_ne, gI_sIA_eq] <;> first | assumption | omega) | (simp only [gI_sI_at, gI_sIA_at, zU, reduceIte] <;> (repeat' split) <;> first | assumption | omega))
  · (first | assumption | (simp (disch := omega) only [zU_ne, zU_eq, gI_sI_ne, gI_sI_eq, gI_sIA_ne, gI_sIA_eq] <;> first | assumption | omega) | (simp only [gI_sI_at, gI_sIA_at, zU, reduceIte] <;> (repeat' split) <;> first | assumption | omega))
  · (first | assumption | (simp (disch := omega) only [zU_ne, zU_eq, gI_sI_ne, gI_sI_eq, gI_sIA_ne, gI_sIA_eq] <;> first | assumption | omega) | (simp only [gI_sI_at, gI_sIA_at, zU, reduceIte] <;> (repeat' split) <;> first | assumption | omega))
  · have q9 := p6 n n0 n1
    (first | assumption | (simp (disch := omega) only [zU_ne, zU_eq, gI_sI_ne, gI_sI_eq, gI_sIA_ne, gI_sIA_eq] <;> first | assumption | omega) | (simp only [gI_sI_at, gI_sIA_at, zU, reduceIte] <;> (repeat' split) <;> first | assumption | omega))
  · have q9 := p7 p g p0 p1 g0 g1
    (first | assumption | (simp (disch := omega) only [zU_ne, zU_eq, gI_sI_ne, gI_sI_eq, gI_sIA_ne, gI_sIA_eq] <;> first | assumption | omega) | (simp only [gI_sI_at, gI_sIA_at, zU, reduceIte] <;> (repeat' split) <;> first | assumption | omega))
  · have q9 := p8 p q p0 p1 q0 q1
    (first | assumption | (simp (disch := omega) only [zU_ne, zU_eq, gI_sI_ne, gI_sI_eq, gI_sIA_ne, gI_sIA_eq] <;> first | assumption | omega) | (simp only [gI_sI_at, gI_sIA_at, zU, reduceIte] <;> (repeat' split) <;> first | assumption | omega))
  · obtain ⟨q9, q8, q7, q6⟩ := p9 t t0 t1
    refine ⟨?_, ?_, ?_, ?_⟩ <;> (first | assumption | (simp (disch := omega) only [zU_ne, zU_eq, gI_sI_ne, gI_sI_eq, gI_sIA_ne, gI_sIA_eq] <;> first | assumption | omega) | (simp only [gI_sI_at, gI_sIA_at, zU, reduceIte] <;> (repeat' split) <;> first | assumption | omega))
  · have t1 : t < a 3 := by simpa (disch := omega) only [zU_ne] using t1
    obtain ⟨q9, q8⟩ := p10 t t0 t1
    simp (disch := omega) only [zU_ne, gI_sI_ne, gI_sIA_ne]
    exact ⟨q9, q8⟩
  · have q9 := p11 t g t0 t1 g0 g1
    (first | assumption | (simp (disch := omega) only [zU_ne, zU_eq, gI_sI_ne, gI_sI_eq, gI_sIA_ne, gI_sIA_eq] <;> first | assumption | omega) | (simp only [gI_sI_at, gI_sIA_at, zU, reduceIte] <;> (repeat' split) <;> first | assumption | omega))
theorem zPw_unp {s x : Int} (v : zIv a) (P : zPw h w a nm) (h0 : 0 ≤ s) (h1 : s < 4) : zPw (sI h (w + 12) s x) w (zU a (151 + 15 * s) x) nm := by
  have kk := zWk17 P.2.1
  refine zPw_upd v P rfl rfl rfl (fun b hb _ => gI_sI_ne (fun e => by rw [e, kk] at hb; cases hb)) (fun k hk => zU_ne (by unfold zStc at hk; omega)) ?_
  obtain ⟨p0, p1, p2, p3, p4, p5, p6, p7, p8, p9, p10, p11⟩ := P.2.2.1
  refine ⟨?_, ?_, ?_, ?_, ?_, ?_, fun n n0 n1 => ?_, fun p g p0 p1 g0 g1 => ?_, fun p q p0 p1 q0 q1 => ?_, fun t t0 t1 => ?_, fun t t0 t1 => ?_, fun t g t0 t1 g0 g1 => ?_⟩
  · (first | assumption | (simp (disch := omega) only [zU_ne, zU_eq, gI_sI_ne, gI_sI_eq, gI_sIA_ne, gI_sIA_eq] <;> first | assumption | omega) | (simp only [gI_sI_at, gI_sIA_at, zU, reduceIte] <;> (repeat' split) <;> first | assumption | omega))
  · (first | assumption | (simp (disch := omega) only [zU_ne, zU_eq, gI_sI_ne, gI_sI_eq, gI_sIA_ne, gI_sIA_eq] <;> first | assumption | omega) | (simp only [gI_sI_at, gI_sIA_at, zU, reduceIte] <;> (repeat' split) <;> first | assumption | omega))
  · (first | assumption | (simp (disch := omega) only [zU_ne, zU_eq, gI_sI_ne, gI_sI_eq, gI_sIA_ne, gI_sIA_eq] <;> first | assumption | omega) | (simp only [gI_sI_at, gI_sIA_at, zU, reduceIte] <;> (repeat' split) <;> first | assumption | omega))
  · (first | assumption | (simp (disch := omega) only [zU_ne, zU_eq, gI_sI_ne, gI_sI_eq, gI_sIA_ne, gI_sIA_eq] <;> first | assumption | omega) | (simp only [gI_sI_at, gI_sIA_at, zU, reduceIte] <;> (repeat' split) <;> first | assumption | omega))
  · (first | assumption | (simp (disch := omega) only [zU_ne, zU_eq, gI_sI_ne, gI_sI_eq, gI_sIA_ne, gI_sIA_eq] <;> first | assumption | omega) | (simp only [gI_sI_at, gI_sIA_at, zU, reduceIte] <;> (repeat' split) <;> first | assumption | omega))
  · (first | assumption | (simp (disch := omega) only [zU_ne, zU_eq, gI_sI_ne, gI_sI_eq, gI_sIA_ne, gI_sIA_eq] <;> first | assumption | omega) | (simp only [gI_sI_at, gI_sIA_at, zU, reduceIte] <;> (repeat' split) <;> first | assumption | omega))
  · have q9 := p6 n n0 n1
    (first | assumption | (simp (disch := omega) only [zU_ne, zU_eq, gI_sI_ne, gI_sI_eq, gI_sIA_ne, gI_sIA_eq] <;> first | assumption | omega) | (simp only [gI_sI_at, gI_sIA_at, zU, reduceIte] <;> (repeat' split) <;> first | assumption | omega))
  · have q9 := p7 p g p0 p1 g0 g1
    (first | assumption | (simp (disch := omega) only [zU_ne, zU_eq, gI_sI_ne, gI_sI_eq, gI_sIA_ne, gI_sIA_eq] <;> first | assumption | omega) | (simp only [gI_sI_at, gI_sIA_at, zU, reduceIte] <;> (repeat' split) <;> first | assumption | omega))
  · have q9 := p8 p q p0 p1 q0 q1
    (first | assumption | (simp (disch := omega) only [zU_ne, zU_eq, gI_sI_ne, gI_sI_eq, gI_sIA_ne, gI_sIA_eq] <;> first | assumption | omega) | (simp only [gI_sI_at, gI_sIA_at, zU, reduceIte] <;> (repeat' split) <;> first | assumption | omega))
  · obtain ⟨q9, q8, q7, q6⟩ := p9 t t0 t1
    refine ⟨?_, ?_, ?_, ?_⟩ <;> (first | assumption | (simp (disch := omega) only [zU_ne, zU_eq, gI_sI_ne, gI_sI_eq, gI_sIA_ne, gI_sIA_eq] <;> first | assumption | omega) | (simp only [gI_sI_at, gI_sIA_at, zU, reduceIte] <;> (repeat' split) <;> first | assumption | omega))
  · have t1 : t < a 3 := by simpa (disch := omega) only [zU_ne] using t1
    obtain ⟨q9, q8⟩ := p10 t t0 t1
    simp (disch := omega) only [zU_ne, gI_sI_ne, gI_sIA_ne]
    exact ⟨q9, q8⟩
  · have q9 := p11 t g t0 t1 g0 g1
    (first | assumption | (simp (disch := omega) only [zU_ne, zU_eq, gI_sI_ne, gI_sI_eq, gI_sIA_ne, gI_sIA_eq] <;> first | assumption | omega) | (simp only [gI_sI_at, gI_sIA_at, zU, reduceIte] <;> (repeat' split) <;> first | assumption | omega))
theorem zPw_dut {s x : Int} (v : zIv a) (P : zPw h w a nm) (h0 : 0 ≤ s) (h1 : s < 4) : zPw (sI h (w + 13) s x) w (zU a (152 + 15 * s) x) nm := by
  have kk := zWk18 P.2.1
  refine zPw_upd v P rfl rfl rfl (fun b hb _ => gI_sI_ne (fun e => by rw [e, kk] at hb; cases hb)) (fun k hk => zU_ne (by unfold zStc at hk; omega)) ?_
  obtain ⟨p0, p1, p2, p3, p4, p5, p6, p7, p8, p9, p10, p11⟩ := P.2.2.1
  refine ⟨?_, ?_, ?_, ?_, ?_, ?_, fun n n0 n1 => ?_, fun p g p0 p1 g0 g1 => ?_, fun p q p0 p1 q0 q1 => ?_, fun t t0 t1 => ?_, fun t t0 t1 => ?_, fun t g t0 t1 g0 g1 => ?_⟩
  · (first | assumption | (simp (disch := omega) only [zU_ne, zU_eq, gI_sI_ne, gI_sI_eq, gI_sIA_ne, gI_sIA_eq] <;> first | assumption | omega) | (simp only [gI_sI_at, gI_sIA_at, zU, reduceIte] <;> (repeat' split) <;> first | assumption | omega))
  · (first | assumption | (simp (disch := omega) only [zU_ne, zU_eq, gI_sI_ne, gI_sI_eq, gI_sIA_ne, gI_sIA_eq] <;> first | assumption | omega) | (simp only [gI_sI_at, gI_sIA_at, zU, reduceIte] <;> (repeat' split) <;> first | assumption | omega))
  · (first | assumption | (simp (disch := omega) only [zU_ne, zU_eq, gI_sI_ne, gI_sI_eq, gI_sIA_ne, gI_sIA_eq] <;> first | assumption | omega) | (simp only [gI_sI_at, gI_sIA_at, zU, reduceIte] <;> (repeat' split) <;> first | assumption | omega))
  · (first | assumption | (simp (disch := omega) only [zU_ne, zU_eq, gI_sI_ne, gI_sI_eq, gI_sIA_ne, gI_sIA_eq] <;> first | assumption | omega) | (simp only [gI_sI_at, gI_sIA_at, zU, reduceIte] <;> (repeat' split) <;> first | assumption | omega))
  · (first | assumption | (simp (disch := omega) only [zU_ne, zU_eq, gI_sI_ne, gI_sI_eq, gI_sIA_ne, gI_sIA_eq] <;> first | assumption | omega) | (simp only [gI_sI_at, gI_sIA_at, zU, reduceIte] <;> (repeat' split) <;> first | assumption | omega))
  · (first | assumption | (simp (disch := omega) only [zU_ne, zU_eq, gI_sI_ne, gI_sI_eq, gI_sIA_ne, gI_sIA_eq] <;> first | assumption | omega) | (simp only [gI_sI_at, gI_sIA_at, zU, reduceIte] <;> (repeat' split) <;> first | assumption | omega))
  · have q9 := p6 n n0 n1
    (first | assumption | (simp (disch := omega) only [zU_ne, zU_eq, gI_sI_ne, gI_sI_eq, gI_sIA_ne, gI_sIA_eq] <;> first | assumption | omega) | (simp only [gI_sI_at, gI_sIA_at, zU, reduceIte] <;> (repeat' split) <;> first | assumption | omega))
  · have q9 := p7 p g p0 p1 g0 g1
    (first | assumption | (simp (disch := omega) only [zU_ne, zU_eq, gI_sI_ne, gI_sI_eq, gI_sIA_ne, gI_sIA_eq] <;> first | assumption | omega) | (simp only [gI_sI_at, gI_sIA_at, zU, reduceIte] <;> (repeat' split) <;> first | assumption | omega))
  · have q9 := p8 p q p0 p1 q0 q1
    (first | assumption | (simp (disch := omega) only [zU_ne, zU_eq, gI_sI_ne, gI_sI_eq, gI_sIA_ne, gI_sIA_eq] <;> first | assumption | omega) | (simp only [gI_sI_at, gI_sIA_at, zU, reduceIte] <;> (repeat' split) <;> first | assumption | omega))
  · obtain ⟨q9, q8, q7, q6⟩ := p9 t t0 t1
    refine ⟨?_, ?_, ?_, ?_⟩ <;> (first | assumption | (simp (disch := omega) only [zU_ne, zU_eq, gI_sI_ne, gI_sI_eq, gI_sIA_ne, gI_sIA_eq] <;> first | assumption | omega) | (simp only [gI_sI_at, gI_sIA_at, zU, reduceIte] <;> (repeat' split) <;> first | assumption | omega))
  · have t1 : t < a 3 := by simpa (disch := omega) only [zU_ne] using t1
    obtain ⟨q9, q8⟩ := p10 t t0 t1
    simp (disch := omega) only [zU_ne, gI_sI_ne, gI_sIA_ne]
    exact ⟨q9, q8⟩
  · have q9 := p11 t g t0 t1 g0 g1
    (first | assumption | (simp (disch := omega) only [zU_ne, zU_eq, gI_sI_ne, gI_sI_eq, gI_sIA_ne, gI_sIA_eq] <;> first | assumption | omega) | (simp only [gI_sI_at, gI_sIA_at, zU, reduceIte] <;> (repeat' split) <;> first | assumption | omega))
theorem zPw_ton {s i x : Int} (v : zIv a) (P : zPw h w a nm) (h0 : 0 ≤ s) (h1 : s < 4) (i0 : 0 ≤ i) (i1 : i < 8) : zPw (sI h (w + 14) (8 * s + i) x) w (zU a (153 + 15 * s + i) x) nm := by
  have kk := zWk19 P.2.1
  refine zPw_upd v P rfl rfl rfl (fun b hb _ => gI_sI_ne (fun e => by rw [e, kk] at hb; cases hb)) (fun k hk => zU_ne (by unfold zStc at hk; omega)) ?_
  obtain ⟨p0, p1, p2, p3, p4, p5, p6, p7, p8, p9, p10, p11⟩ := P.2.2.1
  refine ⟨?_, ?_, ?_, ?_, ?_, ?_, fun n n0 n1 => ?_, fun p g p0 p1 g0 g1 => ?_, fun p q p0 p1 q0 q1 => ?_, fun t t0 t1 => ?_, fun t t0 t1 => ?_, fun t g t0 t1 g0 g1 => ?_⟩
  · (first | assumption | (simp (disch := omega) only [zU_ne, zU_eq, gI_sI_ne, gI_sI_eq, gI_sIA_ne, gI_sIA_eq] <;> first | assumption | omega) | (simp only [gI_sI_at, gI_sIA_at, zU, reduceIte] <;> (repeat' split) <;> first | assumption | omega))
  · (first | assumption | (simp (disch := omega) only [zU_ne, zU_eq, gI_sI_ne, gI_sI_eq, gI_sIA_ne, gI_sIA_eq] <;> first | assumption | omega) | (simp only [gI_sI_at, gI_sIA_at, zU, reduceIte] <;> (repeat' split) <;> first | assumption | omega))
  · (first | assumption | (simp (disch := omega) only [zU_ne, zU_eq, gI_sI_ne, gI_sI_eq, gI_sIA_ne, gI_sIA_eq] <;> first | assumption | omega) | (simp only [gI_sI_at, gI_sIA_at, zU, reduceIte] <;> (repeat' split) <;> first | assumption | omega))
  · (first | assumption | (simp (disch := omega) only [zU_ne, zU_eq, gI_sI_ne, gI_sI_eq, gI_sIA_ne, gI_sIA_eq] <;> first | assumption | omega) | (simp only [gI_sI_at, gI_sIA_at, zU, reduceIte] <;> (repeat' split) <;> first | assumption | omega))
  · (first | assumption | (simp (disch := omega) only [zU_ne, zU_eq, gI_sI_ne, gI_sI_eq, gI_sIA_ne, gI_sIA_eq] <;> first | assumption | omega) | (simp only [gI_sI_at, gI_sIA_at, zU, reduceIte] <;> (repeat' split) <;> first | assumption | omega))
  · (first | assumption | (simp (disch := omega) only [zU_ne, zU_eq, gI_sI_ne, gI_sI_eq, gI_sIA_ne, gI_sIA_eq] <;> first | assumption | omega) | (simp only [gI_sI_at, gI_sIA_at, zU, reduceIte] <;> (repeat' split) <;> first | assumption | omega))
  · have q9 := p6 n n0 n1
    (first | assumption | (simp (disch := omega) only [zU_ne, zU_eq, gI_sI_ne, gI_sI_eq, gI_sIA_ne, gI_sIA_eq] <;> first | assumption | omega) | (simp only [gI_sI_at, gI_sIA_at, zU, reduceIte] <;> (repeat' split) <;> first | assumption | omega))
  · have q9 := p7 p g p0 p1 g0 g1
    (first | assumption | (simp (disch := omega) only [zU_ne, zU_eq, gI_sI_ne, gI_sI_eq, gI_sIA_ne, gI_sIA_eq] <;> first | assumption | omega) | (simp only [gI_sI_at, gI_sIA_at, zU, reduceIte] <;> (repeat' split) <;> first | assumption | omega))
  · have q9 := p8 p q p0 p1 q0 q1
    (first | assumption | (simp (disch := omega) only [zU_ne, zU_eq, gI_sI_ne, gI_sI_eq, gI_sIA_ne, gI_sIA_eq] <;> first | assumption | omega) | (simp only [gI_sI_at, gI_sIA_at, zU, reduceIte] <;> (repeat' split) <;> first | assumption | omega))
  · obtain ⟨q9, q8, q7, q6⟩ := p9 t t0 t1
    refine ⟨?_, ?_, ?_, ?_⟩ <;> (first | assumption | (simp (disch := omega) only [zU_ne, zU_eq, gI_sI_ne, gI_sI_eq, gI_sIA_ne, gI_sIA_eq] <;> first | assumption | omega) | (simp only [gI_sI_at, gI_sIA_at, zU, reduceIte] <;> (repeat' split) <;> first | assumption | omega))
  · have t1 : t < a 3 := by simpa (disch := omega) only [zU_ne] using t1
    obtain ⟨q9, q8⟩ := p10 t t0 t1
    simp (disch := omega) only [zU_ne, gI_sI_ne, gI_sIA_ne]
    exact ⟨q9, q8⟩
  · have q9 := p11 t g t0 t1 g0 g1
    (first | assumption | (simp (disch := omega) only [zU_ne, zU_eq, gI_sI_ne, gI_sI_eq, gI_sIA_ne, gI_sIA_eq] <;> first | assumption | omega) | (simp only [gI_sI_at, gI_sIA_at, zU, reduceIte] <;> (repeat' split) <;> first | assumption | omega))
theorem zPw_war {s x : Int} (v : zIv a) (P : zPw h w a nm) (h0 : 0 ≤ s) (h1 : s < 6) : zPw (sI h (w + 5) s x) w (zU a (11 + 4 * s) x) nm := by
  have kk := zWk10 P.2.1
  refine zPw_upd v P rfl rfl rfl (fun b hb _ => gI_sI_ne (fun e => by rw [e, kk] at hb; cases hb)) (fun k hk => zU_ne (by unfold zStc at hk; omega)) ?_
  obtain ⟨p0, p1, p2, p3, p4, p5, p6, p7, p8, p9, p10, p11⟩ := P.2.2.1
  refine ⟨?_, ?_, ?_, ?_, ?_, ?_, fun n n0 n1 => ?_, fun p g p0 p1 g0 g1 => ?_, fun p q p0 p1 q0 q1 => ?_, fun t t0 t1 => ?_, fun t t0 t1 => ?_, fun t g t0 t1 g0 g1 => ?_⟩
  · (first | assumption | (simp (disch := omega) only [zU_ne, zU_eq, gI_sI_ne, gI_sI_eq, gI_sIA_ne, gI_sIA_eq] <;> first | assumption | omega) | (simp only [gI_sI_at, gI_sIA_at, zU, reduceIte] <;> (repeat' split) <;> first | assumption | omega))
  · (first | assumption | (simp (disch := omega) only [zU_ne, zU_eq, gI_sI_ne, gI_sI_eq, gI_sIA_ne, gI_sIA_eq] <;> first | assumption | omega) | (simp only [gI_sI_at, gI_sIA_at, zU, reduceIte] <;> (repeat' split) <;> first | assumption | omega))
  · (first | assumption | (simp (disch := omega) only [zU_ne, zU_eq, gI_sI_ne, gI_sI_eq, gI_sIA_ne, gI_sIA_eq] <;> first | assumption | omega) | (simp only [gI_sI_at, gI_sIA_at, zU, reduceIte] <;> (repeat' split) <;> first | assumption | omega))
  · (first | assumption | (simp (disch := omega) only [zU_ne, zU_eq, gI_sI_ne, gI_sI_eq, gI_sIA_ne, gI_sIA_eq] <;> first | assumption | omega) | (simp only [gI_sI_at, gI_sIA_at, zU, reduceIte] <;> (repeat' split) <;> first | assumption | omega))
  · (first | assumption | (simp (disch := omega) only [zU_ne, zU_eq, gI_sI_ne, gI_sI_eq, gI_sIA_ne, gI_sIA_eq] <;> first | assumption | omega) | (simp only [gI_sI_at, gI_sIA_at, zU, reduceIte] <;> (repeat' split) <;> first | assumption | omega))
  · (first | assumption | (simp (disch := omega) only [zU_ne, zU_eq, gI_sI_ne, gI_sI_eq, gI_sIA_ne, gI_sIA_eq] <;> first | assumption | omega) | (simp only [gI_sI_at, gI_sIA_at, zU, reduceIte] <;> (repeat' split) <;> first | assumption | omega))
  · have q9 := p6 n n0 n1
    (first | assumption | (simp (disch := omega) only [zU_ne, zU_eq, gI_sI_ne, gI_sI_eq, gI_sIA_ne, gI_sIA_eq] <;> first | assumption | omega) | (simp only [gI_sI_at, gI_sIA_at, zU, reduceIte] <;> (repeat' split) <;> first | assumption | omega))
  · have q9 := p7 p g p0 p1 g0 g1
    (first | assumption | (simp (disch := omega) only [zU_ne, zU_eq, gI_sI_ne, gI_sI_eq, gI_sIA_ne, gI_sIA_eq] <;> first | assumption | omega) | (simp only [gI_sI_at, gI_sIA_at, zU, reduceIte] <;> (repeat' split) <;> first | assumption | omega))
  · have q9 := p8 p q p0 p1 q0 q1
    (first | assumption | (simp (disch := omega) only [zU_ne, zU_eq, gI_sI_ne, gI_sI_eq, gI_sIA_ne, gI_sIA_eq] <;> first | assumption | omega) | (simp only [gI_sI_at, gI_sIA_at, zU, reduceIte] <;> (repeat' split) <;> first | assumption | omega))
  · obtain ⟨q9, q8, q7, q6⟩ := p9 t t0 t1
    refine ⟨?_, ?_, ?_, ?_⟩ <;> (first | assumption | (simp (disch := omega) only [zU_ne, zU_eq, gI_sI_ne, gI_sI_eq, gI_sIA_ne, gI_sIA_eq] <;> first | assumption | omega) | (simp only [gI_sI_at, gI_sIA_at, zU, reduceIte] <;> (repeat' split) <;> first | assumption | omega))
  · have t1 : t < a 3 := by simpa (disch := omega) only [zU_ne] using t1
    obtain ⟨q9, q8⟩ := p10 t t0 t1
    simp (disch := omega) only [zU_ne, gI_sI_ne, gI_sIA_ne]
    exact ⟨q9, q8⟩
  · have q9 := p11 t g t0 t1 g0 g1
    (first | assumption | (simp (disch := omega) only [zU_ne, zU_eq, gI_sI_ne, gI_sI_eq, gI_sIA_ne, gI_sIA_eq] <;> first | assumption | omega) | (simp only [gI_sI_at, gI_sIA_at, zU, reduceIte] <;> (repeat' split) <;> first | assumption | omega))
theorem zPw_price {s i x : Int} (v : zIv a) (P : zPw h w a nm) (h0 : 0 ≤ s) (h1 : s < 6) (i0 : 0 ≤ i) (i1 : i < 8) : zPw (sI h (w + 6) (8 * s + i) x) w (zU a (57 + 15 * s + i) x) nm := by
  have kk := zWk11 P.2.1
  refine zPw_upd v P rfl rfl rfl (fun b hb _ => gI_sI_ne (fun e => by rw [e, kk] at hb; cases hb)) (fun k hk => zU_ne (by unfold zStc at hk; omega)) ?_
  obtain ⟨p0, p1, p2, p3, p4, p5, p6, p7, p8, p9, p10, p11⟩ := P.2.2.1
  refine ⟨?_, ?_, ?_, ?_, ?_, ?_, fun n n0 n1 => ?_, fun p g p0 p1 g0 g1 => ?_, fun p q p0 p1 q0 q1 => ?_, fun t t0 t1 => ?_, fun t t0 t1 => ?_, fun t g t0 t1 g0 g1 => ?_⟩
  · (first | assumption | (simp (disch := omega) only [zU_ne, zU_eq, gI_sI_ne, gI_sI_eq, gI_sIA_ne, gI_sIA_eq] <;> first | assumption | omega) | (simp only [gI_sI_at, gI_sIA_at, zU, reduceIte] <;> (repeat' split) <;> first | assumption | omega))
  · (first | assumption | (simp (disch := omega) only [zU_ne, zU_eq, gI_sI_ne, gI_sI_eq, gI_sIA_ne, gI_sIA_eq] <;> first | assumption | omega) | (simp only [gI_sI_at, gI_sIA_at, zU, reduceIte] <;> (repeat' split) <;> first | assumption | omega))
  · (first | assumption | (simp (disch := omega) only [zU_ne, zU_eq, gI_sI_ne, gI_sI_eq, gI_sIA_ne, gI_sIA_eq] <;> first | assumption | omega) | (simp only [gI_sI_at, gI_sIA_at, zU, reduceIte] <;> (repeat' split) <;> first | assumption | omega))
  · (first | assumption | (simp (disch := omega) only [zU_ne, zU_eq, gI_sI_ne, gI_sI_eq, gI_sIA_ne, gI_sIA_eq] <;> first | assumption | omega) | (simp only [gI_sI_at, gI_sIA_at, zU, reduceIte] <;> (repeat' split) <;> first | assumption | omega))
  · (first | assumption | (simp (disch := omega) only [zU_ne, zU_eq, gI_sI_ne, gI_sI_eq, gI_sIA_ne, gI_sIA_eq] <;> first | assumption | omega) | (simp only [gI_sI_at, gI_sIA_at, zU, reduceIte] <;> (repeat' split) <;> first | assumption | omega))
  · (first | assumption | (simp (disch := omega) only [zU_ne, zU_eq, gI_sI_ne, gI_sI_eq, gI_sIA_ne, gI_sIA_eq] <;> first | assumption | omega) | (simp only [gI_sI_at, gI_sIA_at, zU, reduceIte] <;> (repeat' split) <;> first | assumption | omega))
  · have q9 := p6 n n0 n1
    (first | assumption | (simp (disch := omega) only [zU_ne, zU_eq, gI_sI_ne, gI_sI_eq, gI_sIA_ne, gI_sIA_eq] <;> first | assumption | omega) | (simp only [gI_sI_at, gI_sIA_at, zU, reduceIte] <;> (repeat' split) <;> first | assumption | omega))
  · have q9 := p7 p g p0 p1 g0 g1
    (first | assumption | (simp (disch := omega) only [zU_ne, zU_eq, gI_sI_ne, gI_sI_eq, gI_sIA_ne, gI_sIA_eq] <;> first | assumption | omega) | (simp only [gI_sI_at, gI_sIA_at, zU, reduceIte] <;> (repeat' split) <;> first | assumption | omega))
  · have q9 := p8 p q p0 p1 q0 q1
    (first | assumption | (simp (disch := omega) only [zU_ne, zU_eq, gI_sI_ne, gI_sI_eq, gI_sIA_ne, gI_sIA_eq] <;> first | assumption | omega) | (simp only [gI_sI_at, gI_sIA_at, zU, reduceIte] <;> (repeat' split) <;> first | assumption | omega))
  · obtain ⟨q9, q8, q7, q6⟩ := p9 t t0 t1
    refine ⟨?_, ?_, ?_, ?_⟩ <;> (first | assumption | (simp (disch := omega) only [zU_ne, zU_eq, gI_sI_ne, gI_sI_eq, gI_sIA_ne, gI_sIA_eq] <;> first | assumption | omega) | (simp only [gI_sI_at, gI_sIA_at, zU, reduceIte] <;> (repeat' split) <;> first | assumption | omega))
  · have t1 : t < a 3 := by simpa (disch := omega) only [zU_ne] using t1
    obtain ⟨q9, q8⟩ := p10 t t0 t1
    simp (disch := omega) only [zU_ne, gI_sI_ne, gI_sIA_ne]
    exact ⟨q9, q8⟩
  · have q9 := p11 t g t0 t1 g0 g1
    (first | assumption | (simp (disch := omega) only [zU_ne, zU_eq, gI_sI_ne, gI_sI_eq, gI_sIA_ne, gI_sIA_eq] <;> first | assumption | omega) | (simp only [gI_sI_at, gI_sIA_at, zU, reduceIte] <;> (repeat' split) <;> first | assumption | omega))
theorem zPw_rule {x : Int} (v : zIv a) (P : zPw h w a nm) : zPw (sI h w 4 x) w (zU a 4 x) nm := by
  have kk := zWkk P.2.1
  refine zPw_upd v P rfl rfl rfl (fun b hb h5 => gI_sI_ne (fun e => by rw [e, kk] at h5; exact h5 rfl)) (fun k hk => zU_ne (by unfold zStc at hk; omega)) ?_
  obtain ⟨p0, p1, p2, p3, p4, p5, p6, p7, p8, p9, p10, p11⟩ := P.2.2.1
  refine ⟨?_, ?_, ?_, ?_, ?_, ?_, fun n n0 n1 => ?_, fun p g p0 p1 g0 g1 => ?_, fun p q p0 p1 q0 q1 => ?_, fun t t0 t1 => ?_, fun t t0 t1 => ?_, fun t g t0 t1 g0 g1 => ?_⟩
  · (first | assumption | (simp (disch := omega) only [zU_ne, zU_eq, gI_sI_ne, gI_sI_eq, gI_sIA_ne, gI_sIA_eq] <;> first | assumption | omega) | (simp only [gI_sI_at, gI_sIA_at, zU, reduceIte] <;> (repeat' split) <;> first | assumption | omega))
  · (first | assumption | (simp (disch := omega) only [zU_ne, zU_eq, gI_sI_ne, gI_sI_eq, gI_sIA_ne, gI_sIA_eq] <;> first | assumption | omega) | (simp only [gI_sI_at, gI_sIA_at, zU, reduceIte] <;> (repeat' split) <;> first | assumption | omega))
  · (first | assumption | (simp (disch := omega) only [zU_ne, zU_eq, gI_sI_ne, gI_sI_eq, gI_sIA_ne, gI_sIA_eq] <;> first | assumption | omega) | (simp only [gI_sI_at, gI_sIA_at, zU, reduceIte] <;> (repeat' split) <;> first | assumption | omega))
  · (first | assumption | (simp (disch := omega) only [zU_ne, zU_eq, gI_sI_ne, gI_sI_eq, gI_sIA_ne, gI_sIA_eq] <;> first | assumption | omega) | (simp only [gI_sI_at, gI_sIA_at, zU, reduceIte] <;> (repeat' split) <;> first | assumption | omega))
  · (first | assumption | (simp (disch := omega) only [zU_ne, zU_eq, gI_sI_ne, gI_sI_eq, gI_sIA_ne, gI_sIA_eq] <;> first | assumption | omega) | (simp only [gI_sI_at, gI_sIA_at, zU, reduceIte] <;> (repeat' split) <;> first | assumption | omega))
  · (first | assumption | (simp (disch := omega) only [zU_ne, zU_eq, gI_sI_ne, gI_sI_eq, gI_sIA_ne, gI_sIA_eq] <;> first | assumption | omega) | (simp only [gI_sI_at, gI_sIA_at, zU, reduceIte] <;> (repeat' split) <;> first | assumption | omega))
  · have q9 := p6 n n0 n1
    (first | assumption | (simp (disch := omega) only [zU_ne, zU_eq, gI_sI_ne, gI_sI_eq, gI_sIA_ne, gI_sIA_eq] <;> first | assumption | omega) | (simp only [gI_sI_at, gI_sIA_at, zU, reduceIte] <;> (repeat' split) <;> first | assumption | omega))
  · have q9 := p7 p g p0 p1 g0 g1
    (first | assumption | (simp (disch := omega) only [zU_ne, zU_eq, gI_sI_ne, gI_sI_eq, gI_sIA_ne, gI_sIA_eq] <;> first | assumption | omega) | (simp only [gI_sI_at, gI_sIA_at, zU, reduceIte] <;> (repeat' split) <;> first | assumption | omega))
  · have q9 := p8 p q p0 p1 q0 q1
    (first | assumption | (simp (disch := omega) only [zU_ne, zU_eq, gI_sI_ne, gI_sI_eq, gI_sIA_ne, gI_sIA_eq] <;> first | assumption | omega) | (simp only [gI_sI_at, gI_sIA_at, zU, reduceIte] <;> (repeat' split) <;> first | assumption | omega))
  · obtain ⟨q9, q8, q7, q6⟩ := p9 t t0 t1
    refine ⟨?_, ?_, ?_, ?_⟩ <;> (first | assumption | (simp (disch := omega) only [zU_ne, zU_eq, gI_sI_ne, gI_sI_eq, gI_sIA_ne, gI_sIA_eq] <;> first | assumption | omega) | (simp only [gI_sI_at, gI_sIA_at, zU, reduceIte] <;> (repeat' split) <;> first | assumption | omega))
  · have t1 : t < a 3 := by simpa (disch := omega) only [zU_ne] using t1
    obtain ⟨q9, q8⟩ := p10 t t0 t1
    simp (disch := omega) only [zU_ne, gI_sI_ne, gI_sIA_ne]
    exact ⟨q9, q8⟩
  · have q9 := p11 t g t0 t1 g0 g1
    (first | assumption | (simp (disch := omega) only [zU_ne, zU_eq, gI_sI_ne, gI_sI_eq, gI_sIA_ne, gI_sIA_eq] <;> first | assumption | omega) | (simp only [gI_sI_at, gI_sIA_at, zU, reduceIte] <;> (repeat' split) <;> first | assumption | omega))
theorem zPw_day {x : Int} (v : zIv a) (P : zPw h w a nm) : zPw (sI h w 5 x) w (zU a 5 x) nm := by
  have kk := zWkk P.2.1
  refine zPw_upd v P rfl rfl rfl (fun b hb h5 => gI_sI_ne (fun e => by rw [e, kk] at h5; exact h5 rfl)) (fun k hk => zU_ne (by unfold zStc at hk; omega)) ?_
  obtain ⟨p0, p1, p2, p3, p4, p5, p6, p7, p8, p9, p10, p11⟩ := P.2.2.1
  refine ⟨?_, ?_, ?_, ?_, ?_, ?_, fun n n0 n1 => ?_, fun p g p0 p1 g0 g1 => ?_, fun p q p0 p1 q0 q1 => ?_, fun t t0 t1 => ?_, fun t t0 t1 => ?_, fun t g t0 t1 g0 g1 => ?_⟩
  · (first | assumption | (simp (disch := omega) only [zU_ne, zU_eq, gI_sI_ne, gI_sI_eq, gI_sIA_ne, gI_sIA_eq] <;> first | assumption | omega) | (simp only [gI_sI_at, gI_sIA_at, zU, reduceIte] <;> (repeat' split) <;> first | assumption | omega))
  · (first | assumption | (simp (disch := omega) only [zU_ne, zU_eq, gI_sI_ne, gI_sI_eq, gI_sIA_ne, gI_sIA_eq] <;> first | assumption | omega) | (simp only [gI_sI_at, gI_sIA_at, zU, reduceIte] <;> (repeat' split) <;> first | assumption | omega))
  · (first | assumption | (simp (disch := omega) only [zU_ne, zU_eq, gI_sI_ne, gI_sI_eq, gI_sIA_ne, gI_sIA_eq] <;> first | assumption | omega) | (simp only [gI_sI_at, gI_sIA_at, zU, reduceIte] <;> (repeat' split) <;> first | assumption | omega))
  · (first | assumption | (simp (disch := omega) only [zU_ne, zU_eq, gI_sI_ne, gI_sI_eq, gI_sIA_ne, gI_sIA_eq] <;> first | assumption | omega) | (simp only [gI_sI_at, gI_sIA_at, zU, reduceIte] <;> (repeat' split) <;> first | assumption | omega))
  · (first | assumption | (simp (disch := omega) only [zU_ne, zU_eq, gI_sI_ne, gI_sI_eq, gI_sIA_ne, gI_sIA_eq] <;> first | assumption | omega) | (simp only [gI_sI_at, gI_sIA_at, zU, reduceIte] <;> (repeat' split) <;> first | assumption | omega))
  · (first | assumption | (simp (disch := omega) only [zU_ne, zU_eq, gI_sI_ne, gI_sI_eq, gI_sIA_ne, gI_sIA_eq] <;> first | assumption | omega) | (simp only [gI_sI_at, gI_sIA_at, zU, reduceIte] <;> (repeat' split) <;> first | assumption | omega))
  · have q9 := p6 n n0 n1
    (first | assumption | (simp (disch := omega) only [zU_ne, zU_eq, gI_sI_ne, gI_sI_eq, gI_sIA_ne, gI_sIA_eq] <;> first | assumption | omega) | (simp only [gI_sI_at, gI_sIA_at, zU, reduceIte] <;> (repeat' split) <;> first | assumption | omega))
  · have q9 := p7 p g p0 p1 g0 g1
    (first | assumption | (simp (disch := omega) only [zU_ne, zU_eq, gI_sI_ne, gI_sI_eq, gI_sIA_ne, gI_sIA_eq] <;> first | assumption | omega) | (simp only [gI_sI_at, gI_sIA_at, zU, reduceIte] <;> (repeat' split) <;> first | assumption | omega))
  · have q9 := p8 p q p0 p1 q0 q1
    (first | assumption | (simp (disch := omega) only [zU_ne, zU_eq, gI_sI_ne, gI_sI_eq, gI_sIA_ne, gI_sIA_eq] <;> first | assumption | omega) | (simp only [gI_sI_at, gI_sIA_at, zU, reduceIte] <;> (repeat' split) <;> first | assumption | omega))
  · obtain ⟨q9, q8, q7, q6⟩ := p9 t t0 t1
    refine ⟨?_, ?_, ?_, ?_⟩ <;> (first | assumption | (simp (disch := omega) only [zU_ne, zU_eq, gI_sI_ne, gI_sI_eq, gI_sIA_ne, gI_sIA_eq] <;> first | assumption | omega) | (simp only [gI_sI_at, gI_sIA_at, zU, reduceIte] <;> (repeat' split) <;> first | assumption | omega))
  · have t1 : t < a 3 := by simpa (disch := omega) only [zU_ne] using t1
    obtain ⟨q9, q8⟩ := p10 t t0 t1
    simp (disch := omega) only [zU_ne, gI_sI_ne, gI_sIA_ne]
    exact ⟨q9, q8⟩
  · have q9 := p11 t g t0 t1 g0 g1
    (first | assumption | (simp (disch := omega) only [zU_ne, zU_eq, gI_sI_ne, gI_sI_eq, gI_sIA_ne, gI_sIA_eq] <;> first | assumption | omega) | (simp only [gI_sI_at, gI_sIA_at, zU, reduceIte] <;> (repeat' split) <;> first | assumption | omega))
end X3
