/-! boxes: a list of made ones, or the cache's -/
set_option maxRecDepth 100000
def bxp (L : List (Nat × Int)) : va_W := L.map (fun q => (q.1, .inr (5, [.int (iI q.2)])))
/-- r is a box of z: one of L, or the cache's -/
def bxv (E : TE) (L : List (Nat × Int)) (r : Nat) (z : Int) : Prop := (r, z) ∈ L ∨ ∃ k : Nat, k < 256 ∧ r = E.1 k ∧ z = (k : Int) - 128
theorem bxp_app (L M : List (Nat × Int)) : bxp (L ++ M) = bxp L ++ bxp M := List.map_append
theorem bxv_left {E : TE} {L M : List (Nat × Int)} {r : Nat} {z : Int} (h : bxv E L r z) : bxv E (L ++ M) r z := h.imp (fun q => List.mem_append_left _ q) id
theorem bxv_right {E : TE} {L M : List (Nat × Int)} {r : Nat} {z : Int} (h : bxv E M r z) : bxv E (L ++ M) r z := h.imp (fun q => List.mem_append_right _ q) id
