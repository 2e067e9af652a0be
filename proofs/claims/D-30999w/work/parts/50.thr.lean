/-! methods that throw: what was on the heap stays -/
set_option maxRecDepth 100000
/-- thrown: an exception of the class x; the old heap is as it was -/
def tXC (x : String) : String → State → State → Prop := fun c st t => c = x ∧ st.heap.size ≤ t.heap.size ∧ ∀ q : Nat, q < st.heap.size → t.heap[q]? = st.heap[q]?
def tThr (l : Launch) (y : MethodName) (cc : ByteArray) (nL : Nat) (ret : Option FieldType) (fr lo mc ms : Nat) (as : List Value) (D : TG) (E : TE) (wi : va_W) (x : String) : Prop :=
  ∀ sz : Nat, vx_Met l y (ws_ y cc nL ret) ({ frames := fr, cells := mc, slots := ms, locals := lo }) (va_Pc as (tPre D E wi sz tY0)) (fun _ _ _ _ => False) (tXC x) mc ms (va_A wi sz)
theorem tu_thr {l : Launch} {y : MethodName} {cc : ByteArray} {nL : Nat} {ret : Option FieldType} {fr lo mc ms : Nat} {as : List Value} {D : TG} {E : TE} {wi : va_W} {x : String}
    (hy : plainName y.cls = true) (hn : (lg_sl as).length ≤ nL)
    (body : ∀ (p : Program) (e : Env) (s : State) (m : MethodId) (below : List Frame) (meth : Method) (c : Code) (A : Nat → Prop) (ls : Array Slot) (args : Array Value) (Q : State → Prop), args = as.toArray → vx_MQ below (fun _ _ _ _ => False) (tXC x) args s mc ms A = Q → tC p s m args meth c cc nL ret y → (∀ x ∈ c.exceptionTable.toList, False) → tK D s → tX E A s s.heap → va_P D.1 clAll wi s.heap → va_D A wi → (∀ q : Nat, s.heap.size ≤ q → A q) → A = va_A wi s.heap.size → lv_has ls nL (lv_args 0 as) →
      W p l e ({ frames := fr, cells := mc, slots := ms, locals := lo }) s m args below meth c s.heap [] 0 0 Q (F0 m 0 ls [])) : tThr l y cc nL ret fr lo mc ms as D E wi x := by
  intro sz
  refine vx_ofW (cc := cc) (maxL := nL) (ret := ret) hy rfl ?_
  intro p e s m args below meth c s₁ B hml ht hv
  obtain ⟨rfl, hsz, hP, hK, hD0, hX, hY⟩ := hv
  subst hsz
  have hts := atoms_spec (ws := ws_ y cc nL ret) B.pre
  have hl := lv_entry as (n := nL) hn
  rw [lg_entry_eq]
  exact body p e s m below meth c (va_A wi s.heap.size) _ _ _ rfl rfl ⟨B.exec, B.bytes, hml, findClass_of_methodNamed B.named, fun w h => hts w (List.mem_cons_of_mem _ h), B.returns, B.notSynchronized, (name_of_methodNamed B.named B.method).1⟩ ht hK hX hP hD0.self (fun q h => Or.inr h) rfl hl
