/-! the class object of an array of Objects; growing a ring -/
set_option maxRecDepth 100000
section TB7
variable {p : Program} {l : Launch} {e : Env} {R : Room} {s : State} {m : MethodId} {args : Array Value} {below : List Frame} {meth : Method} {c : Code} {H : Heap} {locs : List Loc} {cells slots : Nat} {Q : State → Prop}
variable {cc : ByteArray} {pc nL : Nat} {ls : Array Slot} {rest : List Value} {D : TG} {E : TE} {A : Nat → Prop} {ret : Option FieldType} {y : MethodName} {ws : va_W} {H0 : Heap} {a n : Nat} {z : Int}
theorem ta_getC (hx : p.tables.exec = Jvm.exec) (hb : c.code = cc) (hml : c.maxLocals = ls.size) {own : String} {index : Nat} (hown : s.vm.findClass own = some m.cls) (hlink : (Cond.methodLink own index ⟨"java/lang/Object", "getClass", "()Ljava/lang/Class;"⟩).before args s = true)
    (hsel : (Cond.selects "[Ljava/lang/Object;" ⟨"java/lang/Object", "getClass", "()Ljava/lang/Class;"⟩ ⟨"java/lang/Object", "getClass", "()Ljava/lang/Class;"⟩).before args s = true) (hinst : (Cond.instanceMethod ⟨"java/lang/Object", "getClass", "()Ljava/lang/Class;"⟩).before args s = true) (hnat : (Cond.native ⟨"java/lang/Object", "getClass", "()Ljava/lang/Class;"⟩).before args s = true)
    (hX : tX E A s s.heap) (hK : tK D s) (hP : va_P D.1 clAll ws H) (q0 : Nat) {f : Nat → Option Nat} (ha : ws[q0]? = some (a, .inl (D.2 5, n, .inr (.inr (.inr (.inr f)))))) (hframes : 1 ≤ R.frames) (hlocals : (rest.map fun v => v.category).sum + 14 ≤ R.locals) (hdg : decode cc pc = .ok (.invokevirtual index, 3))
    (k : W p l e R s m args below meth c H locs cells slots Q (F0 m (pc + 3) ls (.ref E.2.2.2.2.1 :: rest))) : W p l e R s m args below meth c H locs cells slots Q (F0 m pc ls (.ref a :: rest)) := by
  refine va_getC hx hb hml hown hlink (va_Nw.use rfl (hX.1 _ q1721 rfl)) hsel hinst hnat hX.2.2.2.2.2.2.2.2.2.2.2.2.2.1 ⟨_, hP q0 _ ha, rfl, ?_⟩ hframes hlocals hdg k
  exact va_nmO ((hK.2 5 (D.2 5, .object "java/lang/Object") rfl).2) (by decide)
end TB7
/-- the places of a grown ring -/
def gq (n : Nat) : Nat := if n < 64 then n + (n + 2) else n + n / 2
def dqN (n k : Nat) : Nat := if k + 1 = n then gq n else n
def dqC (n k : Nat) : Nat := if k + 1 = n then 1 else 0
def dqS (n k : Nat) : Nat := if k + 1 = n then gq n else 0
theorem gq_rng {n : Nat} (h : 17 ≤ n) : n + 2 ≤ gq n ∧ gq n ≤ n + (n + 2) := by unfold gq; split <;> omega
theorem n_shr1 : ∀ n : Nat, n < 3001 → (iI (n : Int) >>> (iI 1 &&& 31)) = iI ((n / 2 : Nat) : Int) := by decide +kernel
/-- the ring when it has been made longer: its head at the end -/
theorem DQ_grow {n n2 h : Nat} {f g g2 : Nat → Option Nat} {L : List Nat} (hn : n < n2 ∧ n2 ≤ 3000) (hh : h < n) (hL : L.length = n) (hf : ∀ i, i < n → f (wr n (h + i)) = L[i]?)
    (hg : ∀ k, k < n2 → g k = if h + (n2 - n) ≤ k then f (k - (n2 - n)) else if k < n then f k else none) (hg2 : ∀ k, k < n2 → g2 k = if h ≤ k ∧ k < h + (n2 - n) then none else g k) : DQ n2 (h + (n2 - n)) h g2 L := by
  refine ⟨by omega, hn.2, by omega, ?_, fun i hi => ?_, fun i h1 h2 => ?_⟩
  · unfold wr; split <;> omega
  · have e := hf i (by omega)
    rw [← e]
    by_cases q : h + i < n
    · rw [show wr n2 (h + (n2 - n) + i) = h + (n2 - n) + i by unfold wr; split <;> omega, show wr n (h + i) = h + i by unfold wr; split <;> omega, hg2 _ (by omega), if_neg (by omega), hg _ (by omega), if_pos (by omega)]
      congr 1; omega
    · rw [show wr n2 (h + (n2 - n) + i) = h + i - n by unfold wr; split <;> omega, show wr n (h + i) = h + i - n by unfold wr; split <;> omega, hg2 _ (by omega), if_neg (by omega), hg _ (by omega), if_neg (by omega), if_pos (by omega)]
  · rw [hL] at h1
    have e : wr n2 (h + (n2 - n) + i) = h + (i - n) := by unfold wr; split <;> omega
    rw [e, hg2 _ (by omega), if_pos (by omega)]
