/-! the law's loop: what holds at its head, and at each case -/
set_option maxRecDepth 100000
def lawC (l : Launch) (D : TG) (E : TE) (p : Program) (s : State) (m : MethodId) (meth : Method) (c : Code) (bb L : Nat) (xs : Nat → Int32) (A : Nat → Prop) : Prop :=
  tC p s m #[.ref bb] meth c code 9 ret x ∧ L ≤ 384 ∧ va_X bb L xs s s.heap ∧ bb < s.heap.size ∧ ¬ A bb ∧ tK D s ∧ tX E A s s.heap ∧ (∀ q : Nat, s.heap.size ≤ q → A q) ∧ tYnc A s ∧ l.stackTraces = false
def lawW (D : TG) (t a b v n w g : Nat) (P : Nat → Bool) (c v3 n2 : Nat) (S : Nat → Bool) (o b1 b2 b3 b4 b5 b6 : Nat) (kp go : Nat → Bool) (dp pt : Nat → Int) (thr : Int) (ou : Nat) (fo : Nat → Int64) : va_W := [(t, .inr (1, [.ref a, .ref c])), (a, .inr (2, [.int (iI ((w : Nat) : Int)), .int (iI ((g : Nat) : Int)), .ref b])), (b, .inr (3, [.ref v, .int (iI ((un P : Nat) : Int)), .int (zI false)])), (v, .inl (D.2 2, n, .inr (.inl (wd P)))), (c, .inr (3, [.ref v3, .int (iI ((un S : Nat) : Int)), .int (zI false)])), (v3, .inl (D.2 2, n2, .inr (.inl (wd S)))), (o, .inr (0, [.int (iI thr), .ref b1, .ref b2, .ref b3, .ref b4, .ref b5, .ref b6, .int (iI (w : Int)), .int (iI (g : Int))])), (b1, .inl (D.2 0, 1024, .inl (fun x_ => zI (P x_)))), (b2, .inl (D.2 0, 1024, .inl (fun x_ => zI (S x_)))), (b3, .inl (D.2 0, 1024, .inl (fun x_ => zI (kp x_)))), (b4, .inl (D.2 0, 1024, .inl (fun x_ => zI (go x_)))), (b5, .inl (D.2 1, 1024, .inl (fun x_ => iI (dp x_)))), (b6, .inl (D.2 1, 1024, .inl (fun x_ => iI (pt x_)))), (ou, .inl (D.2 2, 1, .inr (.inl fo)))]
def lawAt (l : Launch) (D : TG) (E : TE) (p : Program) (e : Env) (s : State) (m : MethodId) (below : List Frame) (meth : Method) (c0 : Code) (bb : Nat) (A : Nat → Prop) (k pc : Nat) : Prop :=
  ∀ (t a b v n w g : Nat) (P : Nat → Bool) (c v3 n2 : Nat) (S : Nat → Bool) (o b1 b2 b3 b4 b5 b6 : Nat) (kp go : Nat → Bool) (dp pt : Nat → Int) (thr : Int) (ou : Nat) (fo : Nat → Int64) (H : Heap) (locs : List Loc) (cc ss : Nat) (ls : Array Slot),
    (1 ≤ w ∧ w ≤ 32) → (1 ≤ g ∧ g ≤ 32) → BB P n → BB S n2 → (∀ j_, w * g ≤ j_ → P j_ = false) → (∀ j_, w * g ≤ j_ → S j_ = false) → (-2147483648 ≤ thr ∧ thr < 2147483648) →
    va_P D.1 clAll (lawW D t a b v n w g P c v3 n2 S o b1 b2 b3 b4 b5 b6 kp go dp pt thr ou fo) H → va_D A (lawW D t a b v n w g P c v3 n2 S o b1 b2 b3 b4 b5 b6 kp go dp pt thr ou fo) → va_S A s.heap H locs →
    cc ≤ 20 + 7400 * k → ss ≤ 6200 + 70000 * k → lv_has ls 9 [(0, .ref bb), (1, .ref t), (2, .ref o), (3, .ref ou), (4, .int (iI ((6 * k : Nat) : Int)))] →
    W p l e room_1 s m #[.ref bb] below meth c0 H locs cc ss (lw_Z below #[.ref bb] s) (F0 m pc ls [])
section LWR
variable {w g : Nat} {P S : Nat → Bool}
theorem law_ext {n : Nat} {f f2 : Nat → Bool} (hn : w * g ≤ n) (h1 : ∀ j, j < w * g → f j = f2 j) (h0 : ∀ j, w * g ≤ j → f j = false) : fb_ct f n = fb_ct f2 (w * g) := by
  rw [ct_ext hn h0]
  exact fb_ct_cong h1
theorem law_xor (hw : w * g ≤ 1024) (hP : ∀ j, w * g ≤ j → P j = false) (hS : ∀ j, w * g ≤ j → S j = false) : fb_ct (xorB S P) 1024 = chg P S (w * g) := by
  unfold chg
  refine law_ext hw (fun j _ => ?_) (fun j hj => ?_)
  · unfold xorB; cases P j <;> cases S j <;> rfl
  · unfold xorB; rw [hP j hj, hS j hj]; rfl
theorem law_drwL {L : List (Int × Int)} {z : Bool} (hP : ∀ j, w * g ≤ j → P j = false) : ∀ j, w * g ≤ j → drwL w g z L P j = false := fun j hj => by rw [drwL_out w g z L P hj]; exact hP j hj
theorem law_store (hw : w * g ≤ 1024) (hP : ∀ j, w * g ≤ j → P j = false) (hS : ∀ j, w * g ≤ j → S j = false) : fb_ct (xorB P S) 1024 = fb_ct (fun j => S j != P j) (w * g) := by
  refine law_ext hw (fun j _ => ?_) (fun j hj => ?_)
  · unfold xorB; cases P j <;> cases S j <;> rfl
  · unfold xorB; rw [hP j hj, hS j hj]; rfl
theorem law_stf (hP : ∀ j, w * g ≤ j → P j = false) (hS : ∀ j, w * g ≤ j → S j = false) : flw P S (w * g) = P := by
  funext j
  unfold flw
  by_cases h : j < w * g
  · rw [if_pos h]
  · rw [if_neg h, hS j (by omega), hP j (by omega)]
theorem law_inv : flw (fun j => !P j) P (w * g) = flp P (w * g) := by
  funext j
  unfold flw flp
  by_cases h : j < w * g
  · rw [if_pos h, decide_eq_true h]; cases P j <;> rfl
  · rw [if_neg h, decide_eq_false h]; cases P j <;> rfl
theorem law_invz (hP : ∀ j, w * g ≤ j → P j = false) : ∀ j, w * g ≤ j → flp P (w * g) j = false := fun j hj => by unfold flp; rw [hP j hj, decide_eq_false (by omega)]; rfl
theorem law_join (k : Int) (F : Nat → Bool) (hF : ∀ j, F j = jnB k (P j) (S j)) (hP : ∀ j, w * g ≤ j → P j = false) (hz : ∀ j, w * g ≤ j → F j = false) : flw (fun j => jnB k (P j) (S j)) P (w * g) = F := by
  funext j
  unfold flw
  by_cases h : j < w * g
  · rw [if_pos h, hF]
  · rw [if_neg h, hz j (by omega), hP j (by omega)]
theorem law_filz {c : Nat} (hP : ∀ j, w * g ≤ j → P j = false) : ∀ j, w * g ≤ j → (if P c then P else filF w g P c) j = false := fun j hj => by
  split
  · exact hP j hj
  · unfold filF flw; rw [if_neg (by omega)]; exact hP j hj
theorem law_thrz (hP : ∀ j, w * g ≤ j → P j = false) : ∀ j, w * g ≤ j → (thR w g P).2 j = false := fun j hj => thR_sub (hP j hj)
theorem law_setz {x y : Int} {z : Bool} (hP : ∀ j, w * g ≤ j → P j = false) (hv : 0 ≤ x ∧ x < w ∧ 0 ≤ y ∧ y < g) : drw w g x y z P = setB P (cel w x y) z := by
  unfold drw; rw [if_pos ((isBd_t _ _ _ _).mpr hv), setB_up]
theorem law_eg (hw : w * g ≤ 1024) (hP : ∀ j, w * g ≤ j → P j = false) : egA w g P 1024 = egA w g P (w * g) := egA_skip hw (fun q h1 _ => hP q h1)
end LWR
section LSC
variable {p : Program} {l : Launch} {e : Env} {R : Room} {s : State} {m : MethodId} {args : Array Value} {below : List Frame} {meth : Method} {c : Code} {H : Heap} {locs : List Loc} {cells slots : Nat} {Q : State → Prop}
variable {cc : ByteArray} {pc nL : Nat} {ls : Array Slot} {rest : List Value} {A : Nat → Prop} {ret : Option FieldType} {y : MethodName} {bb L : Nat} {xs : Nat → Int32}
theorem law_ld (C : tC p s m args meth c cc nL ret y) (hx : va_X bb L xs s s.heap) (hbl : bb < s.heap.size) (hbA : ¬ A bb) (hS : va_S A s.heap H locs) {z : Int} (k : Nat) (v : Int) (h : z = (k : Int) ∧ k < L ∧ L ≤ 384) (hv : xs k = iI v) (hdg : decode cc pc = .ok (.iaload, 1))
    (kk : W p l e R s m args below meth c H locs cells slots Q (F0 m (pc + 1) ls (.int (iI v) :: rest))) : W p l e R s m args below meth c H locs cells slots Q (F0 m pc ls (.int (iI z) :: .ref bb :: rest)) := by
  obtain ⟨h1, h2, -⟩ := C
  exact va_sld h1 h2 hx hbl hbA hS (iI_in h.1 h.2.1 (by omega)) hdg (by rw [iI_clamp h.1 (by omega), hv]; exact kk)
end LSC
