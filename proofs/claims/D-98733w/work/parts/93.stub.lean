/-! ===== STUBS ===== -/
theorem jO_world {d : Nat} {v0 : Int} : zOp zi d mX0_world mX6_world [zi v0] := by sorry
theorem jO_voyages {d : Nat} {v0 : Int} : zOp zi d mX0_voyages mX6_voyages [zi v0] := by sorry
theorem jO_live {d : Nat} {v0 : Int} : zOp zi d mX0_live mX6_live [zi v0] := by sorry
theorem jO_mean {d : Nat} {v0 v1 : Int} : zOp zi d mX0_mean mX6_mean [zi v0, zi v1] := by sorry
