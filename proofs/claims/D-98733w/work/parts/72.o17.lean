/-! ===== BOTH SIDES JOINED: the operations that give answers, or change the slot ===== -/
set_option maxRecDepth 100000
/-- the script's cell stays -/
def zSc (h h1 : zHp) : Prop := gI h1 0 = gI h 0 ∧ gK h1 0 = gK h 0 ∧ gK h1 113 = gK h 113
/-- a call's room -/
def zBu (h h1 : zHp) : Prop := gC h1 ≤ gC h + 3000 ∧ gS h1 ≤ gS h + 40000 ∧ gN h1 ≤ gN h + 3000
theorem zSc_rf {h : zHp} : zSc h h := ⟨rfl, rfl, rfl⟩
theorem zSc_tr {h h1 h2 : zHp} (a : zSc h h1) (b : zSc h1 h2) : zSc h h2 := ⟨b.1.trans a.1, b.2.1.trans a.2.1, b.2.2.trans a.2.2⟩
theorem zSc_sx {h h1 : zHp} (a : zSx h h1) : zSc h h1 := ⟨a.2.2.2.2.2.1 0 (by decide) (by decide), congrFun a.2.1 0, congrFun a.2.1 113⟩
theorem zSc_sm {h h1 : zHp} {a g : Int → Int} (S : zSm h h1) : zSc h (zH2 h1 a g) := ⟨(zH2_ne (by decide) (by decide)).trans (S.2.2.2.2.1 0 (by decide) (by decide)), congrFun S.2.1 0, congrFun S.2.1 113⟩
/-- an operation on both sides: the component's call ends, and the reference's call behind it ends with the same answer, the relation kept -/
def zOp (mk : Int → zAv) (d : Nat) (MX MM : zMi) (as : List zAv) : Prop := ∀ (Q : zRs → Prop) (h : zHp) (a nm : Int → Int), zRl h a nm → (∀ x h1, zSc h h1 → (∀ Q2 : zRs → Prop, (∀ h2 a2 nm2, zRl h2 a2 nm2 → zSc h h2 → zBu h h2 → Q2 (zRv (mk x) h2)) → zCm MM d (zr (some 113) :: as) h1 Q2) → Q (zRv (mk x) h1)) → zCm MX d (zr (some 65) :: as) h Q
theorem zJ_fin {d : Nat} {MM : zMi} {as : List zAv} {Q : zRs → Prop} {h h1 : zHp} {a b nm : Int → Int} {st x : Int} (R : zRl h a nm) (S : zSx h h1) (Pw : zPw h1 75 b nm) (v : zIv b) (Ss : zSs a b) (s1 : gI h1 65 7 = st) (hM : ∀ Q2 : zRs → Prop, (∀ h2 g, zSm h1 h2 → gI h2 113 2 = st → Q2 (zRv (zi x) (zH2 h2 b g))) → zCm MM d (zr (some 113) :: as) (zH2 h1 a (gI h1 122)) Q2) (k : ∀ x h1, zSc h h1 → (∀ Q2 : zRs → Prop, (∀ h2 a2 nm2, zRl h2 a2 nm2 → zSc h h2 → zBu h h2 → Q2 (zRv (zi x) h2)) → zCm MM d (zr (some 113) :: as) h1 Q2) → Q (zRv (zi x) h1)) : Q (zRv (zi x) h1) := by
  have e114 : gI h1 114 = a := (S.2.2.2.2.2.1 114 (by decide) (by decide)).trans (zRat R)
  have e : zH2 h1 a (gI h1 122) = h1 := by
    rw [← e114]
    exact zH2_id
  refine k x h1 (zSc_sx S) (fun Q2 h2 => ?_)
  have h9 := hM Q2 (fun h3 g S3 s3 => h2 _ b nm (zR_step R S Pw v Ss s1 S3 s3) (zSc_tr (zSc_sx S) (zSc_sm S3)) (by
    have e1 : (zH2 h3 b g).1 = h.1 := S3.1.trans S.1
    unfold zBu gC gS gN
    rw [e1]
    omega))
  rw [e] at h9
  exact h9
theorem zSs_2 {a : Int → Int} {i x j y : Int} (hi : 4 ≤ i ∧ i ≠ 6 ∧ i < 206) (hj : 4 ≤ j ∧ j ≠ 6 ∧ j < 206) : zSs a (zU (zU a i x) j y) := fun k hk => by
  rw [zU_ne (by omega), zU_ne (by omega)]
theorem zSs_1 {a : Int → Int} {i x : Int} (hi : 4 ≤ i ∧ i ≠ 6 ∧ i < 206) : zSs a (zU a i x) := fun k hk => zU_ne (by omega)
theorem fGo_hi {a : Int → Int} {s k : Int} (h0 : 0 ≤ s) (h1 : s < 4) (hk : 206 ≤ k) : (fGo a s).1 k = a k := by
  have e1 : fLeak (fPay a s) s k = a k := by rw [fLeak_ne (by omega), fPay_ne (by omega) (by omega)]
  have e2 : fTick (fLeak (fPay a s) s) s k = a k := by rw [fTick_ne (by omega), e1]
  unfold fGo
  split
  · exact e1
  · split
    · exact e2
    · show fCome (fTick (fLeak (fPay a s) s) s) s k = a k
      unfold fCome
      split
      · rw [fLand_ne (by omega) (by omega)]
        exact e2
      · rw [fDuty_ne (by omega) (by omega), fLand_ne (by omega) (by omega)]
        exact e2
theorem fDayN_hi {a : Int → Int} {k : Int} (hk : 206 ≤ k) : ∀ n : Nat, n ≤ 4 → (fDayN a n).1 k = a k
  | 0, _ => rfl
  | n + 1, hn => by
    show (fGo (fDayN a n).1 n).1 k = a k
    rw [fGo_hi (by omega) (by omega) hk]
    exact fDayN_hi hk n (by omega)
theorem zSs_day {a : Int → Int} (v : zIv a) : zSs a (fDay a).1 := fun k hk => by
  have h3 := zIships v
  rcases hk with hk | hk | hk
  · exact fDay_low (by omega) (by omega)
  · exact fDay_low (by omega) (by omega)
  · show zU _ 5 _ k = _
    rw [zU_ne (by omega)]
    exact fDayN_hi hk _ (by omega)
theorem zSs_tr {a b c : Int → Int} (x : zSs a b) (y : zSs b c) : zSs a c := fun k hk => (y k hk).trans (x k hk)
theorem zSs_days {a : Int → Int} (v : zIv a) : ∀ n : Nat, a 5 + n ≤ 9999 → zSs a (fDays a n).1
  | 0, _ => zSs_rf
  | n + 1, hn => zSs_tr (zSs_days v n (by omega)) (zSs_day (zIv_days v n (by omega)))
theorem zIo_buy {a : Int → Int} {s g n : Int} (v : zIv a) : zIv (oBuy a s g n).1 ∧ zSs a (oBuy a s g n).1 := by
  have b3 := zIships v
  have b1 := (zIgd v).2.1
  unfold oBuy
  split
  · rename_i hd
    split
    · rename_i ok
      refine ⟨zIv_buy v hd ok, ?_⟩
      unfold oDeal at hd
      exact zSs_2 (by omega) (by omega)
    · exact ⟨v, zSs_rf⟩
  · exact ⟨v, zSs_rf⟩
theorem zIo_sell {a : Int → Int} {s g n : Int} (v : zIv a) : zIv (oSell a s g n).1 ∧ zSs a (oSell a s g n).1 := by
  have b3 := zIships v
  have b1 := (zIgd v).2.1
  unfold oSell
  split
  · rename_i hd
    split
    · rename_i ok
      refine ⟨zIv_sell v hd ok, ?_⟩
      unfold oDeal at hd
      exact zSs_2 (by omega) (by omega)
    · exact ⟨v, zSs_rf⟩
  · exact ⟨v, zSs_rf⟩
theorem zIo_dump {a : Int → Int} {s g n : Int} (v : zIv a) : zIv (oDump a s g n).1 ∧ zSs a (oDump a s g n).1 := by
  have b3 := zIships v
  have b1 := (zIgd v).2.1
  unfold oDump
  split
  · rename_i hd
    split
    · rename_i ok
      refine ⟨zIv_dump v hd ok, ?_⟩
      unfold oDeal at hd
      exact zSs_1 (by omega)
    · exact ⟨v, zSs_rf⟩
  · exact ⟨v, zSs_rf⟩
theorem zIo_sail {a : Int → Int} {s p : Int} (v : zIv a) : zIv (oSail a s p).1 ∧ zSs a (oSail a s p).1 := by
  have b3 := zIships v
  unfold oSail
  split
  · rename_i hd
    split
    · rename_i ok
      refine ⟨zIv_sail v hd.1.1 hd.1.2 hd.2.1 hd.2.2 ok, fun k hk => ?_⟩
      show fSail a s p k = a k
      unfold fSail
      rw [zU_ne (by omega), zU_ne (by omega), zU_ne (by omega)]
    · exact ⟨v, zSs_rf⟩
  · exact ⟨v, zSs_rf⟩
theorem zIo_rule {a : Int → Int} {y : Int} (v : zIv a) : zIv (oRule a y).1 ∧ zSs a (oRule a y).1 := by
  unfold oRule
  split
  · rename_i hd
    exact ⟨zIv_rule v hd.1 hd.2, zSs_1 (by decide)⟩
  · exact ⟨v, zSs_rf⟩
theorem zIo_trade {a : Int → Int} {p g x : Int} (v : zIv a) : zIv (oTrade a p g x).1 ∧ zSs a (oTrade a p g x).1 := by
  have b2 := zIports v
  have b1 := (zIgd v).2.1
  unfold oTrade
  split
  · rename_i hd
    exact ⟨zIv_price v hd.1.1 (by omega) hd.2.1.1 (by omega) hd.2.2.1 hd.2.2.2, zSs_1 (by omega)⟩
  · exact ⟨v, zSs_rf⟩
theorem zIo_pay {a : Int → Int} {s n : Int} (v : zIv a) : zIv (oPay a s n).1 ∧ zSs a (oPay a s n).1 := by
  have b3 := zIships v
  unfold oPay
  split
  · rename_i hd
    split
    · rename_i ok
      exact ⟨zIv_coin v hd.1.1 ok.1 ok.2, zSs_1 (by omega)⟩
    · exact ⟨v, zSs_rf⟩
  · exact ⟨v, zSs_rf⟩
theorem zIo_day {a : Int → Int} {n : Int} (v : zIv a) : zIv (oDay a n).1 ∧ zSs a (oDay a n).1 := by
  unfold oDay
  split
  · rename_i hd
    split
    · exact ⟨v, zSs_rf⟩
    · exact ⟨zIv_days v _ (by omega), zSs_days v _ (by omega)⟩
  · exact ⟨v, zSs_rf⟩
theorem zIo_war {a : Int → Int} {x y z : Int} (v : zIv a) : zIv (oWar a x y z).1 ∧ zSs a (oWar a x y z).1 := by
  have b0 := (zIgd v).1
  unfold oWar
  split
  · rename_i hd
    split
    · exact ⟨v, zSs_rf⟩
    · obtain ⟨⟨x0, x1⟩, ⟨y0, y1⟩, ne⟩ := hd
      have f1 := fXor_b (zIwar v x x0 (by omega)) y0 (by omega)
      have f2 := fXor_b (zIwar v y y0 (by omega)) x0 (by omega)
      exact ⟨zIv_war (zIv_war v x0 (by omega) f1.1 f1.2) y0 (by omega) f2.1 f2.2, zSs_2 (by omega) (by omega)⟩
  · exact ⟨v, zSs_rf⟩
theorem zIo_pass {a : Int → Int} {s o g n : Int} (v : zIv a) : zIv (oPass a s o g n).1 ∧ zSs a (oPass a s o g n).1 := by
  have b3 := zIships v
  have b1 := (zIgd v).2.1
  unfold oPass
  split
  · rename_i hd
    split
    · rename_i ok
      exact ⟨zIv_pass v hd ok, zSs_2 (by omega) (by omega)⟩
    · exact ⟨v, zSs_rf⟩
  · exact ⟨v, zSs_rf⟩
section J1
variable {d : Nat}
theorem jO_price {p g : Int} : zOp zi d mX0_price mX6_price [zi p, zi g] := fun Q h a nm R k => by
  refine (oX_price (zRxk R) (zRiv R) (zRpw R)).mpr ?_
  have S1 := zSx_st (x := (oPrice a p g).2) (zSx_rf (h := h))
  refine zJ_fin R S1 (zPw_st (zRiv R) (zRpw R) (zRxk R)) (zRiv R) zSs_rf (by rw [gI_sI_eq, zU_eq]) (fun Q2 h2 => ?_) k
  exact (oM_price (zMk_sx S1 (zRmk R)) (zRiv R)).mpr (h2 _ _ (zSm_sI zSm_rf (by decide)) (by rw [gI_sI_eq, zU_eq]))
theorem jO_way {p g : Int} : zOp zi d mX0_way mX6_way [zi p, zi g] := fun Q h a nm R k => by
  refine (oX_way (zRxk R) (zRiv R) (zRpw R)).mpr ?_
  have S1 := zSx_st (x := (oWay a p g).2) (zSx_rf (h := h))
  refine zJ_fin R S1 (zPw_st (zRiv R) (zRpw R) (zRxk R)) (zRiv R) zSs_rf (by rw [gI_sI_eq, zU_eq]) (fun Q2 h2 => ?_) k
  exact (oM_way (zMk_sx S1 (zRmk R)) (zRiv R)).mpr (h2 _ _ (zSm_sI zSm_rf (by decide)) (by rw [gI_sI_eq, zU_eq]))
theorem jO_portOf {p : Int} : zOp zi d mX0_portOf mX6_portOf [zi p] := fun Q h a nm R k => by
  refine (oX_portOf (zRxk R) (zRiv R) (zRpw R)).mpr ?_
  have S1 := zSx_st (x := (oPortOf a p).2) (zSx_rf (h := h))
  refine zJ_fin R S1 (zPw_st (zRiv R) (zRpw R) (zRxk R)) (zRiv R) zSs_rf (by rw [gI_sI_eq, zU_eq]) (fun Q2 h2 => ?_) k
  exact (oM_portOf (zMk_sx S1 (zRmk R)) (zRiv R)).mpr (h2 _ _ (zSm_sI zSm_rf (by decide)) (by rw [gI_sI_eq, zU_eq]))
theorem jO_nation {n x : Int} : zOp zi d mX0_nation mX6_nation [zi n, zi x] := fun Q h a nm R k => by
  refine (oX_nation (zRxk R) (zRiv R) (zRpw R)).mpr ?_
  have S1 := zSx_st (x := (oNation a n x).2) (zSx_rf (h := h))
  refine zJ_fin R S1 (zPw_st (zRiv R) (zRpw R) (zRxk R)) (zRiv R) zSs_rf (by rw [gI_sI_eq, zU_eq]) (fun Q2 h2 => ?_) k
  exact (oM_nation (zMk_sx S1 (zRmk R)) (zRiv R)).mpr (h2 _ _ (zSm_sI zSm_rf (by decide)) (by rw [gI_sI_eq, zU_eq]))
theorem jO_good {n x : Int} : zOp zi d mX0_good mX6_good [zi n, zi x] := fun Q h a nm R k => by
  refine (oX_good (zRxk R) (zRiv R) (zRpw R)).mpr ?_
  have S1 := zSx_st (x := (oGood a n x).2) (zSx_rf (h := h))
  refine zJ_fin R S1 (zPw_st (zRiv R) (zRpw R) (zRxk R)) (zRiv R) zSs_rf (by rw [gI_sI_eq, zU_eq]) (fun Q2 h2 => ?_) k
  exact (oM_good (zMk_sx S1 (zRmk R)) (zRiv R)).mpr (h2 _ _ (zSm_sI zSm_rf (by decide)) (by rw [gI_sI_eq, zU_eq]))
theorem jO_aboard {s g : Int} : zOp zi d mX0_aboard mX6_aboard [zi s, zi g] := fun Q h a nm R k => by
  refine (oX_aboard (zRxk R) (zRiv R) (zRpw R)).mpr ?_
  have S1 := zSx_st (x := (oAboard a s g).2) (zSx_rf (h := h))
  refine zJ_fin R S1 (zPw_st (zRiv R) (zRpw R) (zRxk R)) (zRiv R) zSs_rf (by rw [gI_sI_eq, zU_eq]) (fun Q2 h2 => ?_) k
  exact (oM_aboard (zMk_sx S1 (zRmk R)) (zRiv R)).mpr (h2 _ _ (zSm_sI zSm_rf (by decide)) (by rw [gI_sI_eq, zU_eq]))
theorem jO_weightBy {s n y : Int} : zOp zi d mX0_weightBy mX6_weightBy [zi s, zi n, zi y] := fun Q h a nm R k => by
  refine oX_weightBy (zRxk R) (zRiv R) (zRpw R) (fun h1 P1 S1 t1 => ?_)
  refine zJ_fin R S1 P1 (zRiv R) zSs_rf t1 (fun Q2 h2 => ?_) k
  exact oM_weightBy (zMk_sx S1 (zRmk R)) (zRiv R) (fun g => h2 _ _ (zSm_sI zSm_rf (by decide)) (by rw [gI_sI_eq, zU_eq]))
theorem jO_weight {s n : Int} : zOp zi d mX0_weight mX6_weight [zi s, zi n] := fun Q h a nm R k => by
  refine oX_weight (zRxk R) (zRiv R) (zRpw R) (fun h1 P1 S1 t1 => ?_)
  refine zJ_fin R S1 P1 (zRiv R) zSs_rf t1 (fun Q2 h2 => ?_) k
  exact oM_weight (zMk_sx S1 (zRmk R)) (zRiv R) (fun g => h2 _ _ (zSm_sI zSm_rf (by decide)) (by rw [gI_sI_eq, zU_eq]))
theorem jO_captains {s : Int} : zOp zi d mX0_captains mX6_captains [zi s] := fun Q h a nm R k => by
  refine oX_captains (zRxk R) (zRiv R) (zRpw R) (fun h1 P1 S1 t1 => ?_)
  refine zJ_fin R S1 P1 (zRiv R) zSs_rf t1 (fun Q2 h2 => ?_) k
  exact oM_captains (zMk_sx S1 (zRmk R)) (zRiv R) (fun g => h2 _ _ (zSm_sI zSm_rf (by decide)) (by rw [gI_sI_eq, zU_eq]))
theorem jO_ruledBy {s y : Int} : zOp zi d mX0_ruledBy mX6_ruledBy [zi s, zi y] := fun Q h a nm R k => by
  refine oX_ruledBy (zRxk R) (zRiv R) (zRpw R) (fun h1 P1 S1 t1 => ?_)
  refine zJ_fin R S1 P1 (zRiv R) zSs_rf t1 (fun Q2 h2 => ?_) k
  exact oM_ruledBy (zMk_sx S1 (zRmk R)) (zRiv R) (fun g => h2 _ _ (zSm_sI zSm_rf (by decide)) (by rw [gI_sI_eq, zU_eq]))
theorem jO_ruled {s : Int} : zOp zi d mX0_ruled mX6_ruled [zi s] := fun Q h a nm R k => by
  refine oX_ruled (zRxk R) (zRiv R) (zRpw R) (fun h1 P1 S1 t1 => ?_)
  refine zJ_fin R S1 P1 (zRiv R) zSs_rf t1 (fun Q2 h2 => ?_) k
  exact oM_ruled (zMk_sx S1 (zRmk R)) (zRiv R) (fun g => h2 _ _ (zSm_sI zSm_rf (by decide)) (by rw [gI_sI_eq, zU_eq]))
theorem jO_board {s o : Int} : zOp zi d mX0_board mX6_board [zi s, zi o] := fun Q h a nm R k => by
  refine oX_board (zRxk R) (zRiv R) (zRpw R) (fun h1 P1 S1 t1 => ?_)
  refine zJ_fin R S1 P1 (zRiv R) zSs_rf t1 (fun Q2 h2 => ?_) k
  exact oM_board (zMk_sx S1 (zRmk R)) (zRiv R) (fun g => h2 _ _ (zSm_sI zSm_rf (by decide)) (by rw [gI_sI_eq, zU_eq]))
theorem jO_boarders {s : Int} : zOp zi d mX0_boarders mX6_boarders [zi s] := fun Q h a nm R k => by
  refine oX_boarders (zRxk R) (zRiv R) (zRpw R) (fun h1 P1 S1 t1 => ?_)
  refine zJ_fin R S1 P1 (zRiv R) zSs_rf t1 (fun Q2 h2 => ?_) k
  exact oM_boarders (zMk_sx S1 (zRmk R)) (zRiv R) (fun g => h2 _ _ (zSm_sI zSm_rf (by decide)) (by rw [gI_sI_eq, zU_eq]))
theorem jO_deeds {s : Int} : zOp zi d mX0_deeds mX6_deeds [zi s] := fun Q h a nm R k => by
  refine oX_deeds (zRxk R) (zRiv R) (zRpw R) (fun h1 P1 S1 t1 => ?_)
  refine zJ_fin R S1 P1 (zRiv R) zSs_rf t1 (fun Q2 h2 => ?_) k
  exact oM_deeds (zMk_sx S1 (zRmk R)) (zRiv R) (fun g => h2 _ _ (zSm_sI zSm_rf (by decide)) (by rw [gI_sI_eq, zU_eq]))
theorem jO_lawful {s n : Int} : zOp zi d mX0_lawful mX6_lawful [zi s, zi n] := fun Q h a nm R k => by
  refine oX_lawful (zRxk R) (zRiv R) (zRpw R) (fun h1 P1 S1 t1 => ?_)
  refine zJ_fin R S1 P1 (zRiv R) zSs_rf t1 (fun Q2 h2 => ?_) k
  exact oM_lawful (zMk_sx S1 (zRmk R)) (zRiv R) (fun g => h2 _ _ (zSm_sI zSm_rf (by decide)) (by rw [gI_sI_eq, zU_eq]))
theorem jO_greatest {n : Int} : zOp zi d mX0_greatest mX6_greatest [zi n] := fun Q h a nm R k => by
  refine oX_greatest (zRxk R) (zRiv R) (zRpw R) (fun h1 P1 S1 t1 => ?_)
  refine zJ_fin R S1 P1 (zRiv R) zSs_rf t1 (fun Q2 h2 => ?_) k
  exact oM_greatest (zMk_sx S1 (zRmk R)) (zRiv R) (fun g => h2 _ _ (zSm_sI zSm_rf (by decide)) (by rw [gI_sI_eq, zU_eq]))
theorem jO_ship {s x : Int} : zOp zi d mX0_ship mX6_ship [zi s, zi x] := fun Q h a nm R k => by
  refine oX_ship (zRxk R) (zRiv R) (zRpw R) (fun h1 P1 S1 t1 => ?_)
  refine zJ_fin R S1 P1 (zRiv R) zSs_rf t1 (fun Q2 h2 => ?_) k
  exact oM_ship (zMk_sx S1 (zRmk R)) (zRiv R) (fun g => h2 _ _ (zSm_sI zSm_rf (by decide)) (by rw [gI_sI_eq, zU_eq]))
theorem jO_told {x : Int} : zOp zi d mX0_told mX6_told [zi x] := fun Q h a nm R k => by
  refine oX_told (zRxk R) (zRiv R) (zRpw R) (fun h1 P1 S1 t1 => ?_)
  refine zJ_fin R S1 P1 (zRiv R) zSs_rf t1 (fun Q2 h2 => ?_) k
  exact oM_told (zMk_sx S1 (zRmk R)) (zRiv R) (fun g => h2 _ _ (zSm_sI zSm_rf (by decide)) (by rw [gI_sI_eq, zU_eq]))
theorem jO_buy {s g n : Int} : zOp zi d mX0_buy mX6_buy [zi s, zi g, zi n] := fun Q h a nm R k => by
  refine oX_buy (zRxk R) (zRiv R) (zRpw R) (fun h1 P1 S1 t1 => ?_)
  refine zJ_fin R S1 P1 (zIo_buy (zRiv R)).1 (zIo_buy (zRiv R)).2 t1 (fun Q2 h2 => ?_) k
  exact oM_buy (zMk_sx S1 (zRmk R)) (zRiv R) (fun g => h2 _ _ (zSm_sI zSm_rf (by decide)) (by rw [gI_sI_eq, zU_eq]))
theorem jO_sell {s g n : Int} : zOp zi d mX0_sell mX6_sell [zi s, zi g, zi n] := fun Q h a nm R k => by
  refine oX_sell (zRxk R) (zRiv R) (zRpw R) (fun h1 P1 S1 t1 => ?_)
  refine zJ_fin R S1 P1 (zIo_sell (zRiv R)).1 (zIo_sell (zRiv R)).2 t1 (fun Q2 h2 => ?_) k
  exact oM_sell (zMk_sx S1 (zRmk R)) (zRiv R) (fun g => h2 _ _ (zSm_sI zSm_rf (by decide)) (by rw [gI_sI_eq, zU_eq]))
theorem jO_dump {s g n : Int} : zOp zi d mX0_dump mX6_dump [zi s, zi g, zi n] := fun Q h a nm R k => by
  refine oX_dump (zRxk R) (zRiv R) (zRpw R) (fun h1 P1 S1 t1 => ?_)
  refine zJ_fin R S1 P1 (zIo_dump (zRiv R)).1 (zIo_dump (zRiv R)).2 t1 (fun Q2 h2 => ?_) k
  exact oM_dump (zMk_sx S1 (zRmk R)) (zRiv R) (fun g => h2 _ _ (zSm_sI zSm_rf (by decide)) (by rw [gI_sI_eq, zU_eq]))
theorem jO_sail {s p : Int} : zOp zi d mX0_sail mX6_sail [zi s, zi p] := fun Q h a nm R k => by
  refine oX_sail (zRxk R) (zRiv R) (zRpw R) (fun h1 P1 S1 t1 => ?_)
  refine zJ_fin R S1 P1 (zIo_sail (zRiv R)).1 (zIo_sail (zRiv R)).2 t1 (fun Q2 h2 => ?_) k
  exact oM_sail (zMk_sx S1 (zRmk R)) (zRiv R) (fun g => h2 _ _ (zSm_sI zSm_rf (by decide)) (by rw [gI_sI_eq, zU_eq]))
theorem jO_rule {y : Int} : zOp zi d mX0_rule mX6_rule [zi y] := fun Q h a nm R k => by
  refine oX_rule (zRxk R) (zRiv R) (zRpw R) (fun h1 P1 S1 t1 => ?_)
  refine zJ_fin R S1 P1 (zIo_rule (zRiv R)).1 (zIo_rule (zRiv R)).2 t1 (fun Q2 h2 => ?_) k
  exact oM_rule (zMk_sx S1 (zRmk R)) (zRiv R) (fun g => h2 _ _ (zSm_sI zSm_rf (by decide)) (by rw [gI_sI_eq, zU_eq]))
theorem jO_trade {p g x : Int} : zOp zi d mX0_trade mX6_trade [zi p, zi g, zi x] := fun Q h a nm R k => by
  refine oX_trade (zRxk R) (zRiv R) (zRpw R) (fun h1 P1 S1 t1 => ?_)
  refine zJ_fin R S1 P1 (zIo_trade (zRiv R)).1 (zIo_trade (zRiv R)).2 t1 (fun Q2 h2 => ?_) k
  exact oM_trade (zMk_sx S1 (zRmk R)) (zRiv R) (fun g => h2 _ _ (zSm_sI zSm_rf (by decide)) (by rw [gI_sI_eq, zU_eq]))
theorem jO_pay {s n : Int} : zOp zi d mX0_pay mX6_pay [zi s, zi n] := fun Q h a nm R k => by
  refine oX_pay (zRxk R) (zRiv R) (zRpw R) (fun h1 P1 S1 t1 => ?_)
  refine zJ_fin R S1 P1 (zIo_pay (zRiv R)).1 (zIo_pay (zRiv R)).2 t1 (fun Q2 h2 => ?_) k
  exact oM_pay (zMk_sx S1 (zRmk R)) (zRiv R) (fun g => h2 _ _ (zSm_sI zSm_rf (by decide)) (by rw [gI_sI_eq, zU_eq]))
theorem jO_day {n : Int} : zOp zi d mX0_day mX6_day [zi n] := fun Q h a nm R k => by
  refine oX_day (zRxk R) (zRiv R) (zRpw R) (fun h1 P1 S1 t1 => ?_)
  refine zJ_fin R S1 P1 (zIo_day (zRiv R)).1 (zIo_day (zRiv R)).2 t1 (fun Q2 h2 => ?_) k
  exact oM_day (zMk_sx S1 (zRmk R)) (zRiv R) (fun g => h2 _ _ (zSm_sI zSm_rf (by decide)) (by rw [gI_sI_eq, zU_eq]))
theorem jO_war {x y z : Int} : zOp zi d mX0_war mX6_war [zi x, zi y, zi z] := fun Q h a nm R k => by
  refine oX_war (zRxk R) (zRiv R) (zRpw R) (fun h1 P1 S1 t1 => ?_)
  refine zJ_fin R S1 P1 (zIo_war (zRiv R)).1 (zIo_war (zRiv R)).2 t1 (fun Q2 h2 => ?_) k
  exact oM_war (zMk_sx S1 (zRmk R)) (zRiv R) (fun g => h2 _ _ (zSm_sI zSm_rf (by decide)) (by rw [gI_sI_eq, zU_eq]))
theorem jO_pass {s o g n : Int} : zOp zi d mX0_pass mX6_pass [zi s, zi o, zi g, zi n] := fun Q h a nm R k => by
  refine oX_pass (zRxk R) (zRiv R) (zRpw R) (fun h1 P1 S1 t1 => ?_)
  refine zJ_fin R S1 P1 (zIo_pass (zRiv R)).1 (zIo_pass (zRiv R)).2 t1 (fun Q2 h2 => ?_) k
  exact oM_pass (zMk_sx S1 (zRmk R)) (zRiv R) (fun g => h2 _ _ (zSm_sI zSm_rf (by decide)) (by rw [gI_sI_eq, zU_eq]))
theorem jO_stowaway {s : Int} : zOp zi d mX0_stowaway mX6_stowaway [zi s] := fun Q h a nm R k => by
  refine oX_stowaway (zRxk R) (zRiv R) (zRpw R) (fun h1 P1 S1 t1 => ?_)
  refine zJ_fin R S1 P1 (zRiv R) zSs_rf t1 (fun Q2 h2 => ?_) k
  exact oM_stowaway (zMk_sx S1 (zRmk R)) (zRiv R) (fun h3 g S3 s3 => h2 h3 g S3 s3)
theorem jO_stowawayGood {s : Int} : zOp zi d mX0_stowawayGood mX6_stowawayGood [zi s] := fun Q h a nm R k => by
  refine oX_stowawayGood (zRxk R) (zRiv R) (zRpw R) (fun h1 P1 S1 t1 => ?_)
  refine zJ_fin R S1 P1 (zRiv R) zSs_rf t1 (fun Q2 h2 => ?_) k
  exact oM_stowawayGood (zMk_sx S1 (zRmk R)) (zRiv R) (fun h3 g S3 s3 => h2 h3 g S3 s3)
theorem jO_guard {s n : Int} : zOp zi d mX0_guard mX6_guard [zi s, zi n] := fun Q h a nm R k => by
  refine oX_guard (zRxk R) (zRiv R) (zRpw R) (fun h1 P1 S1 t1 => ?_)
  refine zJ_fin R S1 P1 (zRiv R) zSs_rf t1 (fun Q2 h2 => ?_) k
  exact oM_guard (zMk_sx S1 (zRmk R)) (zRiv R) (fun h3 g S3 s3 => h2 h3 g S3 s3)
theorem jO_passFor {s y : Int} : zOp zi d mX0_passFor mX6_passFor [zi s, zi y] := fun Q h a nm R k => by
  refine oX_passFor (zRxk R) (zRiv R) (zRpw R) (fun h1 P1 S1 t1 => ?_)
  refine zJ_fin R S1 P1 (zRiv R) zSs_rf t1 (fun Q2 h2 => ?_) k
  exact oM_passFor (zMk_sx S1 (zRmk R)) (zRiv R) (fun h3 g S3 s3 => h2 h3 g S3 s3)
theorem jO_passGood {s y : Int} : zOp zi d mX0_passGood mX6_passGood [zi s, zi y] := fun Q h a nm R k => by
  refine oX_passGood (zRxk R) (zRiv R) (zRpw R) (fun h1 P1 S1 t1 => ?_)
  refine zJ_fin R S1 P1 (zRiv R) zSs_rf t1 (fun Q2 h2 => ?_) k
  exact oM_passGood (zMk_sx S1 (zRmk R)) (zRiv R) (fun h3 g S3 s3 => h2 h3 g S3 s3)
theorem jO_peace {s : Int} : zOp zi d mX0_peace mX6_peace [zi s] := fun Q h a nm R k => by
  refine oX_peace (zRxk R) (zRiv R) (zRpw R) (fun h1 P1 S1 t1 => ?_)
  refine zJ_fin R S1 P1 (zRiv R) zSs_rf t1 (fun Q2 h2 => ?_) k
  exact oM_peace (zMk_sx S1 (zRmk R)) (zRiv R) (fun h3 g S3 s3 => h2 h3 g S3 s3)
theorem jO_peaceCost {s : Int} : zOp zi d mX0_peaceCost mX6_peaceCost [zi s] := fun Q h a nm R k => by
  refine oX_peaceCost (zRxk R) (zRiv R) (zRpw R) (fun h1 P1 S1 t1 => ?_)
  refine zJ_fin R S1 P1 (zRiv R) zSs_rf t1 (fun Q2 h2 => ?_) k
  exact oM_peaceCost (zMk_sx S1 (zRmk R)) (zRiv R) (fun h3 g S3 s3 => h2 h3 g S3 s3)
theorem jO_soonest {x y : Int} : zOp zi d mX0_soonest mX6_soonest [zi x, zi y] := fun Q h a nm R k => by
  refine oX_soonest (zRxk R) (zRiv R) (zRpw R) (fun h1 P1 S1 t1 => ?_)
  refine zJ_fin R S1 P1 (zRiv R) zSs_rf t1 (fun Q2 h2 => ?_) k
  exact oM_soonest (zMk_sx S1 (zRmk R)) (zRiv R) (fun h3 g S3 s3 => h2 h3 g S3 s3)
theorem jO_next {x y : Int} : zOp zi d mX0_next mX6_next [zi x, zi y] := fun Q h a nm R k => by
  refine oX_next (zRxk R) (zRiv R) (zRpw R) (fun h1 P1 S1 t1 => ?_)
  refine zJ_fin R S1 P1 (zRiv R) zSs_rf t1 (fun Q2 h2 => ?_) k
  exact oM_next (zMk_sx S1 (zRmk R)) (zRiv R) (fun h3 g S3 s3 => h2 h3 g S3 s3)
theorem jO_reach {x : Int} : zOp zi d mX0_reach mX6_reach [zi x] := fun Q h a nm R k => by
  refine oX_reach (zRxk R) (zRiv R) (zRpw R) (fun h1 P1 S1 t1 => ?_)
  refine zJ_fin R S1 P1 (zRiv R) zSs_rf t1 (fun Q2 h2 => ?_) k
  exact oM_reach (zMk_sx S1 (zRmk R)) (zRiv R) (fun h3 g S3 s3 => h2 h3 g S3 s3)
theorem jO_best {x y : Int} : zOp zi d mX0_best mX6_best [zi x, zi y] := fun Q h a nm R k => by
  refine oX_best (zRxk R) (zRiv R) (zRpw R) (fun h1 P1 S1 t1 => ?_)
  refine zJ_fin R S1 P1 (zRiv R) zSs_rf t1 (fun Q2 h2 => ?_) k
  exact oM_best (zMk_sx S1 (zRmk R)) (zRiv R) (fun h3 g S3 s3 => h2 h3 g S3 s3)
theorem jO_flagIn {s n : Int} : zOp zi d mX0_flagIn mX6_flagIn [zi s, zi n] := fun Q h a nm R k => by
  refine oX_flagIn (zRxk R) (zRwk R) (zRiv R) (zRpw R) (fun h1 P1 S1 t1 => ?_)
  refine zJ_fin R S1 P1 (zRiv R) zSs_rf t1 (fun Q2 h2 => ?_) k
  exact oM_flagIn (zMk_sx S1 (zRmk R)) (zRiv R) (fun h3 g S3 s3 => h2 h3 g S3 s3)
theorem jO_tonsIn {s n : Int} : zOp zi d mX0_tonsIn mX6_tonsIn [zi s, zi n] := fun Q h a nm R k => by
  refine oX_tonsIn (zRxk R) (zRwk R) (zRiv R) (zRpw R) (fun h1 P1 S1 t1 => ?_)
  refine zJ_fin R S1 P1 (zRiv R) zSs_rf t1 (fun Q2 h2 => ?_) k
  exact oM_tonsIn (zMk_sx S1 (zRmk R)) (zRiv R) (fun h3 g S3 s3 => h2 h3 g S3 s3)
theorem jO_turns {s : Int} : zOp zi d mX0_turns mX6_turns [zi s] := fun Q h a nm R k => by
  refine oX_turns (zRxk R) (zRwk R) (zRiv R) (zRpw R) (fun h1 P1 S1 t1 => ?_)
  refine zJ_fin R S1 P1 (zRiv R) zSs_rf t1 (fun Q2 h2 => ?_) k
  exact oM_turns (zMk_sx S1 (zRmk R)) (zRiv R) (fun h3 g S3 s3 => h2 h3 g S3 s3)
theorem jO_flags {s n : Int} : zOp zi d mX0_flags mX6_flags [zi s, zi n] := fun Q h a nm R k => by
  refine oX_flags (zRxk R) (zRwk R) (zRiv R) (zRpw R) (fun h1 P1 S1 t1 => ?_)
  refine zJ_fin R S1 P1 (zRiv R) zSs_rf t1 (fun Q2 h2 => ?_) k
  exact oM_flags (zMk_sx S1 (zRmk R)) (zRiv R) (fun h3 g S3 s3 => h2 h3 g S3 s3)
theorem jO_wages {s n : Int} : zOp zi d mX0_wages mX6_wages [zi s, zi n] := fun Q h a nm R k => by
  refine oX_wages (zRxk R) (zRwk R) (zRiv R) (zRpw R) (fun h1 P1 S1 t1 => ?_)
  refine zJ_fin R S1 P1 (zRiv R) zSs_rf t1 (fun Q2 h2 => ?_) k
  exact oM_wages (zMk_sx S1 (zRmk R)) (zRiv R) (fun h3 g S3 s3 => h2 h3 g S3 s3)
end J1
