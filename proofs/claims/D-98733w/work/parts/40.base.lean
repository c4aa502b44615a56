/-! ===== THE PICTURES: what stands where all through a run (by program), the heap's laws ===== -/
set_option maxRecDepth 100000
section
variable {h : zHp} {a b : Nat} {j v : Int} {f : Int → Int} {g : Int → Option Nat} {o : Option Nat} {x : Int}
theorem zKl_i : zKl (some (Sum.inl x)) = some (Sum.inl x) := rfl
theorem zKl_r : zKl (some (Sum.inr (Sum.inr o))) = some (Sum.inr (Sum.inr o)) := rfl
theorem zKl_n : zKl none = none := rfl
theorem zKl_l : zKl (some (Sum.inr (Sum.inl x))) = none := rfl
theorem gK_sIA : gK (sIA h a f) = gK h := rfl
theorem gR_sIA : gR (sIA h a f) = gR h := rfl
theorem gJ_sIA : gJ (sIA h a f) = gJ h := rfl
theorem gK_sJA : gK (sJA h a f) = gK h := rfl
theorem gR_sJA : gR (sJA h a f) = gR h := rfl
theorem gI_sJA : gI (sJA h a f) = gI h := rfl
theorem gK_sI : gK (sI h a j v) = gK h := rfl
theorem gR_sI : gR (sI h a j v) = gR h := rfl
theorem gJ_sI : gJ (sI h a j v) = gJ h := rfl
theorem gK_sJ : gK (sJ h a j v) = gK h := rfl
theorem gR_sJ : gR (sJ h a j v) = gR h := rfl
theorem gI_sJ : gI (sJ h a j v) = gI h := rfl
theorem gK_sR : gK (sR h a j o) = gK h := rfl
theorem gI_sR : gI (sR h a j o) = gI h := rfl
theorem gJ_sR : gJ (sR h a j o) = gJ h := rfl
theorem gI_sI_eq : gI (sI h a j v) a = zU (gI h a) j v := if_pos rfl
theorem gI_sI_ne (e : b ≠ a) : gI (sI h a j v) b = gI h b := if_neg e
theorem gI_sIA_eq : gI (sIA h a f) a = f := if_pos rfl
theorem gI_sIA_ne (e : b ≠ a) : gI (sIA h a f) b = gI h b := if_neg e
theorem gJ_sJ_eq : gJ (sJ h a j v) a = zU (gJ h a) j v := if_pos rfl
theorem gJ_sJ_ne (e : b ≠ a) : gJ (sJ h a j v) b = gJ h b := if_neg e
theorem gR_sR_eq : gR (sR h a j o) a = zU (gR h a) j o := if_pos rfl
theorem gR_sR_ne (e : b ≠ a) : gR (sR h a j o) b = gR h b := if_neg e
theorem zWt_i {r : List zAv} : zWt (Sum.inl x :: r) = 1 + zWt r := rfl
theorem zWt_l {r : List zAv} : zWt (Sum.inr (Sum.inl x) :: r) = 2 + zWt r := rfl
theorem zWt_r {r : List zAv} : zWt (Sum.inr (Sum.inr o) :: r) = 1 + zWt r := rfl
theorem zWt_n : zWt [] = 0 := rfl
theorem zU_eq {α : Type} {f : Int → α} {v : α} : zU f j v j = v := if_pos rfl
theorem zU_ne {α : Type} {f : Int → α} {v : α} {k : Int} (e : k ≠ j) : zU f j v k = f k := if_neg e
end
theorem zLc_lt {x y : Int} : (zLcmp x y < 0) = (x < y) := by
  unfold zLcmp
  apply propext
  split
  · simp; assumption
  · split <;> simp <;> omega
theorem zLc_gt {x y : Int} : (0 < zLcmp x y) = (y < x) := by
  unfold zLcmp
  apply propext
  split
  · simp; omega
  · split <;> simp <;> omega
theorem zLc_eq {x y : Int} : (zLcmp x y = 0) = (x = y) := by
  unfold zLcmp
  apply propext
  split
  · simp; omega
  · split <;> simp <;> omega
theorem zLc_le {x y : Int} : (zLcmp x y ≤ 0) = (x ≤ y) := by
  unfold zLcmp
  apply propext
  split
  · simp; omega
  · split <;> simp <;> omega
theorem zLc_ge {x y : Int} : (0 ≤ zLcmp x y) = (y ≤ x) := by
  unfold zLcmp
  apply propext
  split
  · simp; omega
  · split <;> simp <;> omega
def zMk (h : zHp) : Prop := gK h 113 = (0, 6) ∧ gR h 113 0 = some 114 ∧ gK h 114 = (1, 4004) ∧ gR h 113 1 = some 115 ∧ gK h 115 = (4, 144) ∧ gR h 113 5 = some 116 ∧ gK h 116 = (1, 4) ∧ gR h 113 6 = some 117 ∧ gK h 117 = (1, 4) ∧ gR h 113 7 = some 118 ∧ gK h 118 = (4, 240) ∧ gR h 113 8 = some 119 ∧ gK h 119 = (2, 900) ∧ gR h 113 9 = some 120 ∧ gK h 120 = (2, 900) ∧ gR h 113 21 = some 121 ∧ gK h 121 = (1, 3) ∧ gR h 113 24 = some 122 ∧ gK h 122 = (1, 8) ∧ gR h 113 28 = some 123 ∧ gK h 123 = (1, 4) ∧ gR h 113 29 = some 124 ∧ gK h 124 = (1, 60) ∧ gR h 113 32 = some 125 ∧ gK h 125 = (1, 6) ∧ gR h 113 37 = some 126 ∧ gK h 126 = (1, 80) ∧ gR h 113 38 = some 127 ∧ gK h 127 = (1, 5) ∧ gR h 113 39 = some 128 ∧ gK h 128 = (1, 5)
theorem zMkk {h : zHp} (P : zMk h) : gK h 113 = (0, 6) := P.1
theorem zMr0 {h : zHp} (P : zMk h) : gR h 113 0 = some 114 := P.2.1
theorem zMk0 {h : zHp} (P : zMk h) : gK h 114 = (1, 4004) := P.2.2.1
theorem zMr1 {h : zHp} (P : zMk h) : gR h 113 1 = some 115 := P.2.2.2.1
theorem zMk1 {h : zHp} (P : zMk h) : gK h 115 = (4, 144) := P.2.2.2.2.1
theorem zMr5 {h : zHp} (P : zMk h) : gR h 113 5 = some 116 := P.2.2.2.2.2.1
theorem zMk5 {h : zHp} (P : zMk h) : gK h 116 = (1, 4) := P.2.2.2.2.2.2.1
theorem zMr6 {h : zHp} (P : zMk h) : gR h 113 6 = some 117 := P.2.2.2.2.2.2.2.1
theorem zMk6 {h : zHp} (P : zMk h) : gK h 117 = (1, 4) := P.2.2.2.2.2.2.2.2.1
theorem zMr7 {h : zHp} (P : zMk h) : gR h 113 7 = some 118 := P.2.2.2.2.2.2.2.2.2.1
theorem zMk7 {h : zHp} (P : zMk h) : gK h 118 = (4, 240) := P.2.2.2.2.2.2.2.2.2.2.1
theorem zMr8 {h : zHp} (P : zMk h) : gR h 113 8 = some 119 := P.2.2.2.2.2.2.2.2.2.2.2.1
theorem zMk8 {h : zHp} (P : zMk h) : gK h 119 = (2, 900) := P.2.2.2.2.2.2.2.2.2.2.2.2.1
theorem zMr9 {h : zHp} (P : zMk h) : gR h 113 9 = some 120 := P.2.2.2.2.2.2.2.2.2.2.2.2.2.1
theorem zMk9 {h : zHp} (P : zMk h) : gK h 120 = (2, 900) := P.2.2.2.2.2.2.2.2.2.2.2.2.2.2.1
theorem zMr21 {h : zHp} (P : zMk h) : gR h 113 21 = some 121 := P.2.2.2.2.2.2.2.2.2.2.2.2.2.2.2.1
theorem zMk21 {h : zHp} (P : zMk h) : gK h 121 = (1, 3) := P.2.2.2.2.2.2.2.2.2.2.2.2.2.2.2.2.1
theorem zMr24 {h : zHp} (P : zMk h) : gR h 113 24 = some 122 := P.2.2.2.2.2.2.2.2.2.2.2.2.2.2.2.2.2.1
theorem zMk24 {h : zHp} (P : zMk h) : gK h 122 = (1, 8) := P.2.2.2.2.2.2.2.2.2.2.2.2.2.2.2.2.2.2.1
theorem zMr28 {h : zHp} (P : zMk h) : gR h 113 28 = some 123 := P.2.2.2.2.2.2.2.2.2.2.2.2.2.2.2.2.2.2.2.1
theorem zMk28 {h : zHp} (P : zMk h) : gK h 123 = (1, 4) := P.2.2.2.2.2.2.2.2.2.2.2.2.2.2.2.2.2.2.2.2.1
theorem zMr29 {h : zHp} (P : zMk h) : gR h 113 29 = some 124 := P.2.2.2.2.2.2.2.2.2.2.2.2.2.2.2.2.2.2.2.2.2.1
theorem zMk29 {h : zHp} (P : zMk h) : gK h 124 = (1, 60) := P.2.2.2.2.2.2.2.2.2.2.2.2.2.2.2.2.2.2.2.2.2.2.1
theorem zMr32 {h : zHp} (P : zMk h) : gR h 113 32 = some 125 := P.2.2.2.2.2.2.2.2.2.2.2.2.2.2.2.2.2.2.2.2.2.2.2.1
theorem zMk32 {h : zHp} (P : zMk h) : gK h 125 = (1, 6) := P.2.2.2.2.2.2.2.2.2.2.2.2.2.2.2.2.2.2.2.2.2.2.2.2.1
theorem zMr37 {h : zHp} (P : zMk h) : gR h 113 37 = some 126 := P.2.2.2.2.2.2.2.2.2.2.2.2.2.2.2.2.2.2.2.2.2.2.2.2.2.1
theorem zMk37 {h : zHp} (P : zMk h) : gK h 126 = (1, 80) := P.2.2.2.2.2.2.2.2.2.2.2.2.2.2.2.2.2.2.2.2.2.2.2.2.2.2.1
theorem zMr38 {h : zHp} (P : zMk h) : gR h 113 38 = some 127 := P.2.2.2.2.2.2.2.2.2.2.2.2.2.2.2.2.2.2.2.2.2.2.2.2.2.2.2.1
theorem zMk38 {h : zHp} (P : zMk h) : gK h 127 = (1, 5) := P.2.2.2.2.2.2.2.2.2.2.2.2.2.2.2.2.2.2.2.2.2.2.2.2.2.2.2.2.1
theorem zMr39 {h : zHp} (P : zMk h) : gR h 113 39 = some 128 := P.2.2.2.2.2.2.2.2.2.2.2.2.2.2.2.2.2.2.2.2.2.2.2.2.2.2.2.2.2.1
theorem zMk39 {h : zHp} (P : zMk h) : gK h 128 = (1, 5) := P.2.2.2.2.2.2.2.2.2.2.2.2.2.2.2.2.2.2.2.2.2.2.2.2.2.2.2.2.2.2
def zWk (h : zHp) (w : Nat) : Prop := gK h w = (0, 5) ∧ gR h w 10 = some (w + 5) ∧ gK h (w + 5) = (1, 6) ∧ gR h w 11 = some (w + 6) ∧ gK h (w + 6) = (1, 48) ∧ gR h w 12 = some (w + 7) ∧ gK h (w + 7) = (1, 36) ∧ gR h w 13 = some (w + 8) ∧ gK h (w + 8) = (1, 4) ∧ gR h w 14 = some (w + 9) ∧ gK h (w + 9) = (1, 4) ∧ gR h w 15 = some (w + 10) ∧ gK h (w + 10) = (1, 4) ∧ gR h w 16 = some (w + 11) ∧ gK h (w + 11) = (1, 4) ∧ gR h w 17 = some (w + 12) ∧ gK h (w + 12) = (1, 4) ∧ gR h w 18 = some (w + 13) ∧ gK h (w + 13) = (1, 4) ∧ gR h w 19 = some (w + 14) ∧ gK h (w + 14) = (1, 32) ∧ gR h w 20 = some (w + 15) ∧ gK h (w + 15) = (1, 6)
theorem zWkk {h : zHp} {w : Nat} (P : zWk h w) : gK h w = (0, 5) := P.1
theorem zWr10 {h : zHp} {w : Nat} (P : zWk h w) : gR h w 10 = some (w + 5) := P.2.1
theorem zWk10 {h : zHp} {w : Nat} (P : zWk h w) : gK h (w + 5) = (1, 6) := P.2.2.1
theorem zWr11 {h : zHp} {w : Nat} (P : zWk h w) : gR h w 11 = some (w + 6) := P.2.2.2.1
theorem zWk11 {h : zHp} {w : Nat} (P : zWk h w) : gK h (w + 6) = (1, 48) := P.2.2.2.2.1
theorem zWr12 {h : zHp} {w : Nat} (P : zWk h w) : gR h w 12 = some (w + 7) := P.2.2.2.2.2.1
theorem zWk12 {h : zHp} {w : Nat} (P : zWk h w) : gK h (w + 7) = (1, 36) := P.2.2.2.2.2.2.1
theorem zWr13 {h : zHp} {w : Nat} (P : zWk h w) : gR h w 13 = some (w + 8) := P.2.2.2.2.2.2.2.1
theorem zWk13 {h : zHp} {w : Nat} (P : zWk h w) : gK h (w + 8) = (1, 4) := P.2.2.2.2.2.2.2.2.1
theorem zWr14 {h : zHp} {w : Nat} (P : zWk h w) : gR h w 14 = some (w + 9) := P.2.2.2.2.2.2.2.2.2.1
theorem zWk14 {h : zHp} {w : Nat} (P : zWk h w) : gK h (w + 9) = (1, 4) := P.2.2.2.2.2.2.2.2.2.2.1
theorem zWr15 {h : zHp} {w : Nat} (P : zWk h w) : gR h w 15 = some (w + 10) := P.2.2.2.2.2.2.2.2.2.2.2.1
theorem zWk15 {h : zHp} {w : Nat} (P : zWk h w) : gK h (w + 10) = (1, 4) := P.2.2.2.2.2.2.2.2.2.2.2.2.1
theorem zWr16 {h : zHp} {w : Nat} (P : zWk h w) : gR h w 16 = some (w + 11) := P.2.2.2.2.2.2.2.2.2.2.2.2.2.1
theorem zWk16 {h : zHp} {w : Nat} (P : zWk h w) : gK h (w + 11) = (1, 4) := P.2.2.2.2.2.2.2.2.2.2.2.2.2.2.1
theorem zWr17 {h : zHp} {w : Nat} (P : zWk h w) : gR h w 17 = some (w + 12) := P.2.2.2.2.2.2.2.2.2.2.2.2.2.2.2.1
theorem zWk17 {h : zHp} {w : Nat} (P : zWk h w) : gK h (w + 12) = (1, 4) := P.2.2.2.2.2.2.2.2.2.2.2.2.2.2.2.2.1
theorem zWr18 {h : zHp} {w : Nat} (P : zWk h w) : gR h w 18 = some (w + 13) := P.2.2.2.2.2.2.2.2.2.2.2.2.2.2.2.2.2.1
theorem zWk18 {h : zHp} {w : Nat} (P : zWk h w) : gK h (w + 13) = (1, 4) := P.2.2.2.2.2.2.2.2.2.2.2.2.2.2.2.2.2.2.1
theorem zWr19 {h : zHp} {w : Nat} (P : zWk h w) : gR h w 19 = some (w + 14) := P.2.2.2.2.2.2.2.2.2.2.2.2.2.2.2.2.2.2.2.1
theorem zWk19 {h : zHp} {w : Nat} (P : zWk h w) : gK h (w + 14) = (1, 32) := P.2.2.2.2.2.2.2.2.2.2.2.2.2.2.2.2.2.2.2.2.1
theorem zWr20 {h : zHp} {w : Nat} (P : zWk h w) : gR h w 20 = some (w + 15) := P.2.2.2.2.2.2.2.2.2.2.2.2.2.2.2.2.2.2.2.2.2.1
theorem zWk20 {h : zHp} {w : Nat} (P : zWk h w) : gK h (w + 15) = (1, 6) := P.2.2.2.2.2.2.2.2.2.2.2.2.2.2.2.2.2.2.2.2.2.2
def zXk (h : zHp) : Prop := gK h 65 = (0, 0) ∧ gR h 65 0 = some 66 ∧ gK h 66 = (5, 4) ∧ gR h 65 1 = some 71 ∧ gK h 71 = (2, 900) ∧ gR h 65 5 = some 72 ∧ gK h 72 = (0, 2) ∧ gR h 65 6 = some 73 ∧ gK h 73 = (0, 3) ∧ gR h 65 10 = some 74 ∧ gK h 74 = (0, 4) ∧ gR h 65 11 = some 91 ∧ gK h 91 = (10, 3) ∧ gR h 65 13 = some 92 ∧ gR h 65 17 = some 108 ∧ gK h 108 = (1, 40) ∧ gR h 65 18 = some 109 ∧ gK h 109 = (1, 2) ∧ gR h 65 19 = some 110 ∧ gK h 110 = (1, 2) ∧ gR h 65 21 = some 111 ∧ gK h 111 = (1, 6) ∧ gR h 65 23 = some 112 ∧ gK h 112 = (1, 5) ∧ gR h 66 0 = some 67 ∧ gK h 67 = (0, 1) ∧ gR h 66 1 = some 68 ∧ gK h 68 = (0, 1) ∧ gR h 66 2 = some 69 ∧ gK h 69 = (0, 1) ∧ gR h 66 3 = some 70 ∧ gK h 70 = (0, 1) ∧ gR h 74 0 = some 75
theorem zXkk {h : zHp} (P : zXk h) : gK h 65 = (0, 0) := P.1
theorem zXr0 {h : zHp} (P : zXk h) : gR h 65 0 = some 66 := P.2.1
theorem zXk0 {h : zHp} (P : zXk h) : gK h 66 = (5, 4) := P.2.2.1
theorem zXr1 {h : zHp} (P : zXk h) : gR h 65 1 = some 71 := P.2.2.2.1
theorem zXk1 {h : zHp} (P : zXk h) : gK h 71 = (2, 900) := P.2.2.2.2.1
theorem zXr5 {h : zHp} (P : zXk h) : gR h 65 5 = some 72 := P.2.2.2.2.2.1
theorem zXk5 {h : zHp} (P : zXk h) : gK h 72 = (0, 2) := P.2.2.2.2.2.2.1
theorem zXr6 {h : zHp} (P : zXk h) : gR h 65 6 = some 73 := P.2.2.2.2.2.2.2.1
theorem zXk6 {h : zHp} (P : zXk h) : gK h 73 = (0, 3) := P.2.2.2.2.2.2.2.2.1
theorem zXr10 {h : zHp} (P : zXk h) : gR h 65 10 = some 74 := P.2.2.2.2.2.2.2.2.2.1
theorem zXk10 {h : zHp} (P : zXk h) : gK h 74 = (0, 4) := P.2.2.2.2.2.2.2.2.2.2.1
theorem zXr11 {h : zHp} (P : zXk h) : gR h 65 11 = some 91 := P.2.2.2.2.2.2.2.2.2.2.2.1
theorem zXk11 {h : zHp} (P : zXk h) : gK h 91 = (10, 3) := P.2.2.2.2.2.2.2.2.2.2.2.2.1
theorem zXr13 {h : zHp} (P : zXk h) : gR h 65 13 = some 92 := P.2.2.2.2.2.2.2.2.2.2.2.2.2.1
theorem zXr17 {h : zHp} (P : zXk h) : gR h 65 17 = some 108 := P.2.2.2.2.2.2.2.2.2.2.2.2.2.2.1
theorem zXk17 {h : zHp} (P : zXk h) : gK h 108 = (1, 40) := P.2.2.2.2.2.2.2.2.2.2.2.2.2.2.2.1
theorem zXr18 {h : zHp} (P : zXk h) : gR h 65 18 = some 109 := P.2.2.2.2.2.2.2.2.2.2.2.2.2.2.2.2.1
theorem zXk18 {h : zHp} (P : zXk h) : gK h 109 = (1, 2) := P.2.2.2.2.2.2.2.2.2.2.2.2.2.2.2.2.2.1
theorem zXr19 {h : zHp} (P : zXk h) : gR h 65 19 = some 110 := P.2.2.2.2.2.2.2.2.2.2.2.2.2.2.2.2.2.2.1
theorem zXk19 {h : zHp} (P : zXk h) : gK h 110 = (1, 2) := P.2.2.2.2.2.2.2.2.2.2.2.2.2.2.2.2.2.2.2.1
theorem zXr21 {h : zHp} (P : zXk h) : gR h 65 21 = some 111 := P.2.2.2.2.2.2.2.2.2.2.2.2.2.2.2.2.2.2.2.2.1
theorem zXk21 {h : zHp} (P : zXk h) : gK h 111 = (1, 6) := P.2.2.2.2.2.2.2.2.2.2.2.2.2.2.2.2.2.2.2.2.2.1
theorem zXr23 {h : zHp} (P : zXk h) : gR h 65 23 = some 112 := P.2.2.2.2.2.2.2.2.2.2.2.2.2.2.2.2.2.2.2.2.2.2.1
theorem zXk23 {h : zHp} (P : zXk h) : gK h 112 = (1, 5) := P.2.2.2.2.2.2.2.2.2.2.2.2.2.2.2.2.2.2.2.2.2.2.2.1
theorem zXt0 {h : zHp} (P : zXk h) : gR h 66 0 = some 67 := P.2.2.2.2.2.2.2.2.2.2.2.2.2.2.2.2.2.2.2.2.2.2.2.2.1
theorem zXu0 {h : zHp} (P : zXk h) : gK h 67 = (0, 1) := P.2.2.2.2.2.2.2.2.2.2.2.2.2.2.2.2.2.2.2.2.2.2.2.2.2.1
theorem zXt1 {h : zHp} (P : zXk h) : gR h 66 1 = some 68 := P.2.2.2.2.2.2.2.2.2.2.2.2.2.2.2.2.2.2.2.2.2.2.2.2.2.2.1
theorem zXu1 {h : zHp} (P : zXk h) : gK h 68 = (0, 1) := P.2.2.2.2.2.2.2.2.2.2.2.2.2.2.2.2.2.2.2.2.2.2.2.2.2.2.2.1
theorem zXt2 {h : zHp} (P : zXk h) : gR h 66 2 = some 69 := P.2.2.2.2.2.2.2.2.2.2.2.2.2.2.2.2.2.2.2.2.2.2.2.2.2.2.2.2.1
theorem zXu2 {h : zHp} (P : zXk h) : gK h 69 = (0, 1) := P.2.2.2.2.2.2.2.2.2.2.2.2.2.2.2.2.2.2.2.2.2.2.2.2.2.2.2.2.2.1
theorem zXt3 {h : zHp} (P : zXk h) : gR h 66 3 = some 70 := P.2.2.2.2.2.2.2.2.2.2.2.2.2.2.2.2.2.2.2.2.2.2.2.2.2.2.2.2.2.2.1
theorem zXu3 {h : zHp} (P : zXk h) : gK h 70 = (0, 1) := P.2.2.2.2.2.2.2.2.2.2.2.2.2.2.2.2.2.2.2.2.2.2.2.2.2.2.2.2.2.2.2.1
theorem zXh0 {h : zHp} (P : zXk h) : gR h 74 0 = some 75 := P.2.2.2.2.2.2.2.2.2.2.2.2.2.2.2.2.2.2.2.2.2.2.2.2.2.2.2.2.2.2.2.2

theorem zMk_sI {h : zHp} {a : Nat} {j v : Int} : zMk (sI h a j v) ↔ zMk h := Iff.rfl
theorem zXk_sI {h : zHp} {a : Nat} {j v : Int} : zXk (sI h a j v) ↔ zXk h := Iff.rfl

/-- a run has one end: an end that is reached from every condition that it meets is the end -/
theorem zCm_iff {M : zMi} {d : Nat} {as : List zAv} {h : zHp} {Q : zRs → Prop} {r : zRs} (hy : ∀ Q : zRs → Prop, Q r → zCm M d as h Q) : zCm M d as h Q ↔ Q r := by
  constructor
  · rintro ⟨n, r1, e1, q1⟩
    obtain ⟨m, r2, e2, q2⟩ := hy (fun x => x = r) rfl
    have a1 := zRun_le (Nat.le_max_left n m) _ _ _ _ _ _ _ e1
    have a2 := zRun_le (Nat.le_max_right n m) _ _ _ _ _ _ _ e2
    rw [a1] at a2
    rw [← q2, ← Option.some.inj a2]
    exact q1
  · exact hy Q
