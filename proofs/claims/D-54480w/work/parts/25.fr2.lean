/-! THE FRAME, on: inherited and overridden methods, super calls, class objects, a new object's fields -/
set_option maxRecDepth 100000
/-- as vx_ofW, by the method's own name: no row of the natives' table stands for it -/
theorem vx_ofWP {l : Launch} {y : MethodName} {ws ws' : List Cond} {rm : Room} {Pc : Array Value → State → Prop} {Qc : Array Value → State → Outcome → State → Prop} {XC : String → State → State → Prop} {mc ms : Nat} {free : Addr → Prop} {cc : ByteArray} {maxL : Nat} {ret : Option FieldType}
    (hy : plainFor y = true) (hw : ws = Cond.code y cc maxL ret :: ws')
    (body : ∀ p e s m args below meth c s₁, BodyLoose p l y (headSpec ws rm) cc maxL ret e s m args below meth c s₁ → c.maxLocals = maxL → (∀ x ∈ c.exceptionTable.toList, False) → Pc args s →
      W p l e (headSpec ws rm).room s m args below meth c s.heap [] 0 0 (vx_MQ below Qc XC args s mc ms free) (entryFrame m args maxL)) : vx_Met l y ws rm Pc Qc XC mc ms free := by
  refine MetFree.of_bodySF (code := cc) (maxLocals := maxL) (ret := ret) hy ?_ ?_
  · intro args s m h hn
    obtain ⟨meth, c, h1, h2, h3, h4, h5, h6, -, -⟩ := Cond.code_spec hn (atoms_spec (ws := ws) h _ (by rw [hw]; exact List.mem_cons_self))
    exact ⟨meth, c, h1, h2, h3, h4, h5, h6⟩
  · intro p e s m args below meth c s₁ B hml hP _
    have hh0 : s₁.heap = s.heap := by rw [B.state]; rfl
    have ht : ∀ x ∈ c.exceptionTable.toList, False := by
      obtain ⟨meth9, c9, h1, h2, -, -, -, -, h7, -⟩ := Cond.code_spec B.named (atoms_spec (ws := ws) B.pre _ (by rw [hw]; exact List.mem_cons_self))
      cases Option.some.inj (h1.symm.trans B.method)
      cases Option.some.inj (h2.symm.trans (Stand.of_body B).code)
      intro x hx
      rw [Array.isEmpty_iff.mp h7] at hx
      cases hx
    obtain ⟨t, a1, o, b1, b2, b3⟩ := body p e s m args below meth c s₁ B hml ht hP s₁ hh0 (Stand.of_body B)
    exact ⟨t, o, a1, b1, b2, b3⟩
theorem CT_ofP {G : GT} {y : MethodName} {cc : ByteArray} {nL : Nat} {ret : Option FieldType} {rm : Room} {as : List Value} {h : PH} {Q : Option Value → PH → Prop} {QE : String → PH → Prop} (lv : List (Option Value)) (hy : plainFor y = true) (hlv : las 0 lv = lv_args 0 as) (hlen : (lg_sl as).length ≤ nL)
    (body : ∀ X : Cx, CxOK X G cc nL y.cls ret rm → FinOK X G Q QE → (∀ x ∈ (xc X).exceptionTable.toList, False) → Go X G h rm.cells rm.slots 0 lv []) : CT G y cc nL ret rm as h Q QE := by
  intro htr
  refine vx_ofWP (cc := cc) (maxL := nL) (ret := ret) hy rfl ?_
  intro p e s m args below meth c s₁ B hml hex hv
  obtain ⟨rfl, hsz, hR, hK⟩ := hv
  have hts := atoms_spec (ws := ws_ y cc nL ret) B.pre
  have hts : ∀ w ∈ lw_all, w.before _ s = true := fun w h => hts w (List.mem_cons_of_mem _ h)
  have hown : s.vm.findClass y.cls = some m.cls := findClass_of_methodNamed B.named
  have hl := lv_entry as (n := nL) hlen
  rw [lg_entry_eq]
  generalize (lg_sl as ++ List.replicate (nL - (lg_sl as).length) Slot.unset).toArray = ls at hl ⊢
  rw [← hlv] at hl
  have key := body (p, e, rm, s, m, as.toArray, below, meth, c, vx_MQ below (QC G Q) (QX G QE) as.toArray s rm.cells rm.slots (gF G)) ⟨B.exec, B.bytes, hml, hown, hts, hK, hsz, B.returns, B.notSynchronized, rfl, htr⟩ rfl hex
  exact key s.heap [] 0 0 ls hR va_S.rf (by rw [hml]; exact hl) (by rw [Nat.zero_add]; exact Nat.le_refl _) (by rw [Nat.zero_add]; exact Nat.le_refl _)
theorem lw_U {own : String} {idx : Nat} {C owner : String} {x y : MethodName} {b : ByteArray} {L : Nat} {r : Option FieldType} (h1 : Cond.methodLink own idx x ∈ lw_all) (h2 : Cond.sameMethod x.cls owner x.name x.desc ∈ lw_all) (h3 : Cond.selects C x y ∈ lw_all) (h4 : Cond.instanceMethod y ∈ lw_all) (h5 : Cond.initialized y.cls ∈ lw_all) (h6 : Cond.code y b L r ∈ lw_all) : GoodIn lw_all (va_wsU own idx C owner x y (ws_ y b L r)) := by
  refine lw_app ?_ (lw_meth h6)
  intro w hw
  simp only [List.mem_cons, List.not_mem_nil, or_false] at hw
  rcases hw with e | e | e | e | e <;> rw [e]
  · exact h1
  · exact h2
  · exact h3
  · exact h4
  · exact h5
theorem lw_SU {own : String} {idx : Nat} {y : MethodName} {b : ByteArray} {L : Nat} {r : Option FieldType} (h1 : Cond.methodLink own idx y ∈ lw_all) (h2 : Cond.sameMethod y.cls y.cls y.name y.desc ∈ lw_all) (h3 : Cond.superclass own y.cls ∈ lw_all) (h4 : Cond.instanceMethod y ∈ lw_all) (h5 : Cond.initialized y.cls ∈ lw_all) (h6 : Cond.code y b L r ∈ lw_all) : GoodIn lw_all (va_wsSU own idx y (ws_ y b L r)) := by
  refine lw_app ?_ (lw_meth h6)
  intro w hw
  simp only [List.mem_cons, List.not_mem_nil, or_false] at hw
  rcases hw with e | e | e | e | e <;> rw [e]
  · exact h1
  · exact h2
  · exact h3
  · exact h4
  · exact h5
/-- a private method is picked itself, of whatever class the object is -/
theorem sel_priv {args : Array Value} {s : State} {C : String} {n : Nat} {y : MethodName} (hins : (Cond.instantiable C n).before args s = true) (hsame : (Cond.sameMethod y.cls y.cls y.name y.desc).before args s = true) (hpriv : (Cond.privateMethod y).before args s = true) (hinst : (Cond.instanceMethod y).before args s = true) : (Cond.selects C y y).before args s = true := by
  obtain ⟨c, k, hc, hk, -⟩ := Cond.instantiable_spec hins
  obtain ⟨cn, ck, r1, hcn, hck, hni, hf, hn1⟩ := Cond.sameMethod_found hsame
  obtain ⟨mk, methM, hnamed, hmethM, -, -⟩ := Cond.instanceMethod_spec hinst
  have hn2 : s.methodNamed? y = some r1 := hn1
  cases hnamed.symm.trans hn2
  have hcls : r1.cls = cn := Option.some.inj ((findClass_of_methodNamed hnamed).symm.trans hcn)
  have hsel : selectMethod {} s.vm c r1 = .method r1 := selectMethod_private hmethM (Cond.privateMethod_at hpriv r1 methM hnamed hmethM)
  simp only [Cond.before, Cond.holds, Cond.value, hc, hf, hnamed, hsel, hcls, hck]
  simp; exact hni
section FR2
variable {X : Cx} {G : GT} {h : PH} {k n pc nL : Nat} {lv : List (Option Value)} {rest : List Value} {cc : ByteArray} {own : String} {ret : Option FieldType} {rm : Room} {o : Ow} {a : Nat}
variable {Q : Option Value → PH → Prop} {QE : String → PH → Prop}
variable {y : MethodName} {bytes : ByteArray} {maxL index : Nat} {ret2 : Option FieldType} {rm2 : Room} {b : Nat} {As st0 : List Value}
theorem go_callUX (hC : CxOK X G cc nL own ret rm) {x : MethodName} {C owner : String} {ci : Nat} {fs : List Value} {q : vw_C} (hM : CT G y bytes maxL ret2 rm2 (.ref b :: As) h Q QE) (hw : GoodIn lw_all (va_wsU own index C owner x y (ws_ y bytes maxL ret2))) (hyx : y = ⟨owner, x.name, x.desc⟩) (hb : h b = some (o, ob ci fs)) (hcl : gcl[ci]? = some q) (hqC : q.1 = C) (hd : decode cc pc = .ok (.invokevirtual index, 3)) (na : Nat) (hst : st0 = As.reverse ++ .ref b :: rest) (hy : owner ≠ "java/lang/invoke/MethodHandle" ∧ owner ≠ "java/lang/invoke/VarHandle" ∧ (parseMethodDescriptor x.desc).map (fun d => d.parameters.length) = some na) (hna : As.length = na) (hrm : rm2.frames + 1 ≤ rm.frames ∧ 8 + (maxL + 11) + rm2.locals ≤ rm.locals) (hcat : (rest.map fun v => v.category).sum ≤ 8) (hk : rm2.cells ≤ k) (hn : rm2.slots ≤ n) (kx : ∀ (E : String) (h' : PH), QE E h' → GoX X G h' (k - rm2.cells) (n - rm2.slots) pc lv E) (kk : ∀ (v : Option Value) (h' : PH), Q v h' → Go X G h' (k - rm2.cells) (n - rm2.slots) (pc + 3) lv (psh v rest)) : Go X G h k n pc lv st0 := by
  intro H locs cells slots ls hR hS hl q1 q2
  have hr := hC.2.2.2.2.2.2.2.2.2.1
  subst hst
  subst hna
  subst hqC
  exact run_go rfl (vx_runU ⟨hC.1, hC.2.1, hC.2.2.1, hC.2.2.2.1, hC.2.2.2.2.1⟩ (hM hC.2.2.2.2.2.2.2.2.2.2) (va_cwU As.length hC.2.2.2.2.1 hw rfl rfl rfl hyx hy (by rw [hr]; exact hrm)) ⟨PC.blind, hR.recv hC.2.2.2.2.2.1.1 hb hcl, PC.now hC hR hS⟩ rfl rfl (hl.1.trans hC.2.2.1) rfl (lv_room hcat) hd ⟨by omega, by omega⟩) hS hl q1 q2 hk hn kx kk
theorem go_callU (hC : CxOK X G cc nL own ret rm) {x : MethodName} {C owner : String} {ci : Nat} {fs : List Value} {q : vw_C} (hM : CT G y bytes maxL ret2 rm2 (.ref b :: As) h Q noX) (hw : GoodIn lw_all (va_wsU own index C owner x y (ws_ y bytes maxL ret2))) (hyx : y = ⟨owner, x.name, x.desc⟩) (hb : h b = some (o, ob ci fs)) (hcl : gcl[ci]? = some q) (hqC : q.1 = C) (hd : decode cc pc = .ok (.invokevirtual index, 3)) (na : Nat) (hst : st0 = As.reverse ++ .ref b :: rest) (hy : owner ≠ "java/lang/invoke/MethodHandle" ∧ owner ≠ "java/lang/invoke/VarHandle" ∧ (parseMethodDescriptor x.desc).map (fun d => d.parameters.length) = some na) (hna : As.length = na) (hrm : rm2.frames + 1 ≤ rm.frames ∧ 8 + (maxL + 11) + rm2.locals ≤ rm.locals) (hcat : (rest.map fun v => v.category).sum ≤ 8) (hk : rm2.cells ≤ k) (hn : rm2.slots ≤ n) (kk : ∀ (v : Option Value) (h' : PH), Q v h' → Go X G h' (k - rm2.cells) (n - rm2.slots) (pc + 3) lv (psh v rest)) : Go X G h k n pc lv st0 :=
  go_callUX hC hM hw hyx hb hcl hqC hd na hst hy hna hrm hcat hk hn (fun E h' z => z.elim) kk
theorem go_callU0 (hC : CxOK X G cc nL own ret rm) {x : MethodName} {C owner : String} {ci : Nat} {fs : List Value} {q : vw_C} (hM : CT G y bytes maxL ret2 rm2 (.ref b :: As) h Q noX) (hw : GoodIn lw_all (va_wsU own index C owner x y (ws_ y bytes maxL ret2))) (hyx : y = ⟨owner, x.name, x.desc⟩) (hb : h b = some (o, ob ci fs)) (hcl : gcl[ci]? = some q) (hqC : q.1 = C) (hd : decode cc pc = .ok (.invokevirtual index, 3)) (na : Nat) (hst : st0 = As.reverse ++ .ref b :: rest) (hy : owner ≠ "java/lang/invoke/MethodHandle" ∧ owner ≠ "java/lang/invoke/VarHandle" ∧ (parseMethodDescriptor x.desc).map (fun d => d.parameters.length) = some na) (hna : As.length = na) (hrm : rm2.frames + 1 ≤ rm.frames ∧ 8 + (maxL + 11) + rm2.locals ≤ rm.locals) (hcat : (rest.map fun v => v.category).sum ≤ 8) (hz : rm2.cells = 0 ∧ rm2.slots = 0) (kk : ∀ (v : Option Value) (h' : PH), Q v h' → Go X G h' k n (pc + 3) lv (psh v rest)) : Go X G h k n pc lv st0 :=
  go_callUX hC hM hw hyx hb hcl hqC hd na hst hy hna hrm hcat (by rw [hz.1]; exact Nat.zero_le _) (by rw [hz.2]; exact Nat.zero_le _) (fun E h' z => z.elim) (fun v h' q => by rw [hz.1, hz.2]; exact kk v h' q)
theorem go_callOX (hC : CxOK X G cc nL own ret rm) {x : MethodName} {C owner : String} {ci : Nat} {fs : List Value} {q : vw_C} (hM : CT G y bytes maxL ret2 rm2 (.ref b :: As) h Q QE) (hw : GoodIn lw_all (va_wsU own index C owner x y (ws_ y bytes maxL ret2))) (hz9 : Cond.declares ⟨owner, x.name, x.desc⟩ ∈ lw_tbl) (hb : h b = some (o, ob ci fs)) (hcl : gcl[ci]? = some q) (hqC : q.1 = C) (hd : decode cc pc = .ok (.invokevirtual index, 3)) (na : Nat) (hst : st0 = As.reverse ++ .ref b :: rest) (hy : owner ≠ "java/lang/invoke/MethodHandle" ∧ owner ≠ "java/lang/invoke/VarHandle" ∧ (parseMethodDescriptor x.desc).map (fun d => d.parameters.length) = some na) (hna : As.length = na) (hrm : rm2.frames + 1 ≤ rm.frames ∧ 8 + (maxL + 11) + rm2.locals ≤ rm.locals) (hcat : (rest.map fun v => v.category).sum ≤ 8) (hk : rm2.cells ≤ k) (hn : rm2.slots ≤ n) (kx : ∀ (E : String) (h' : PH), QE E h' → GoX X G h' (k - rm2.cells) (n - rm2.slots) pc lv E) (kk : ∀ (v : Option Value) (h' : PH), Q v h' → Go X G h' (k - rm2.cells) (n - rm2.slots) (pc + 3) lv (psh v rest)) : Go X G h k n pc lv st0 := by
  intro H locs cells slots ls hR hS hl q1 q2
  have hr := hC.2.2.2.2.2.2.2.2.2.1
  subst hst
  subst hna
  subst hqC
  exact run_go rfl (vx_runU ⟨hC.1, hC.2.1, hC.2.2.1, hC.2.2.2.1, hC.2.2.2.2.1⟩ (hM hC.2.2.2.2.2.2.2.2.2.2) (va_cwA As.length hC.2.2.2.2.1 hw rfl rfl rfl (hC.2.2.2.2.2.1.2.1 _ hz9 rfl) hy (by rw [hr]; exact hrm)) ⟨PC.blind, hR.recv hC.2.2.2.2.2.1.1 hb hcl, PC.now hC hR hS⟩ rfl rfl (hl.1.trans hC.2.2.1) rfl (lv_room hcat) hd ⟨by omega, by omega⟩) hS hl q1 q2 hk hn kx kk
theorem go_callO (hC : CxOK X G cc nL own ret rm) {x : MethodName} {C owner : String} {ci : Nat} {fs : List Value} {q : vw_C} (hM : CT G y bytes maxL ret2 rm2 (.ref b :: As) h Q noX) (hw : GoodIn lw_all (va_wsU own index C owner x y (ws_ y bytes maxL ret2))) (hz9 : Cond.declares ⟨owner, x.name, x.desc⟩ ∈ lw_tbl) (hb : h b = some (o, ob ci fs)) (hcl : gcl[ci]? = some q) (hqC : q.1 = C) (hd : decode cc pc = .ok (.invokevirtual index, 3)) (na : Nat) (hst : st0 = As.reverse ++ .ref b :: rest) (hy : owner ≠ "java/lang/invoke/MethodHandle" ∧ owner ≠ "java/lang/invoke/VarHandle" ∧ (parseMethodDescriptor x.desc).map (fun d => d.parameters.length) = some na) (hna : As.length = na) (hrm : rm2.frames + 1 ≤ rm.frames ∧ 8 + (maxL + 11) + rm2.locals ≤ rm.locals) (hcat : (rest.map fun v => v.category).sum ≤ 8) (hk : rm2.cells ≤ k) (hn : rm2.slots ≤ n) (kk : ∀ (v : Option Value) (h' : PH), Q v h' → Go X G h' (k - rm2.cells) (n - rm2.slots) (pc + 3) lv (psh v rest)) : Go X G h k n pc lv st0 :=
  go_callOX hC hM hw hz9 hb hcl hqC hd na hst hy hna hrm hcat hk hn (fun E h' z => z.elim) kk
theorem go_callO0 (hC : CxOK X G cc nL own ret rm) {x : MethodName} {C owner : String} {ci : Nat} {fs : List Value} {q : vw_C} (hM : CT G y bytes maxL ret2 rm2 (.ref b :: As) h Q noX) (hw : GoodIn lw_all (va_wsU own index C owner x y (ws_ y bytes maxL ret2))) (hz9 : Cond.declares ⟨owner, x.name, x.desc⟩ ∈ lw_tbl) (hb : h b = some (o, ob ci fs)) (hcl : gcl[ci]? = some q) (hqC : q.1 = C) (hd : decode cc pc = .ok (.invokevirtual index, 3)) (na : Nat) (hst : st0 = As.reverse ++ .ref b :: rest) (hy : owner ≠ "java/lang/invoke/MethodHandle" ∧ owner ≠ "java/lang/invoke/VarHandle" ∧ (parseMethodDescriptor x.desc).map (fun d => d.parameters.length) = some na) (hna : As.length = na) (hrm : rm2.frames + 1 ≤ rm.frames ∧ 8 + (maxL + 11) + rm2.locals ≤ rm.locals) (hcat : (rest.map fun v => v.category).sum ≤ 8) (hz : rm2.cells = 0 ∧ rm2.slots = 0) (kk : ∀ (v : Option Value) (h' : PH), Q v h' → Go X G h' k n (pc + 3) lv (psh v rest)) : Go X G h k n pc lv st0 :=
  go_callOX hC hM hw hz9 hb hcl hqC hd na hst hy hna hrm hcat (by rw [hz.1]; exact Nat.zero_le _) (by rw [hz.2]; exact Nat.zero_le _) (fun E h' z => z.elim) (fun v h' q => by rw [hz.1, hz.2]; exact kk v h' q)
theorem go_callPX (hC : CxOK X G cc nL own ret rm) {C : String} {N ci : Nat} {fs : List Value} {q : vw_C} (hM : CT G y bytes maxL ret2 rm2 (.ref b :: As) h Q QE) (hins : Cond.instantiable C N ∈ lw_all) (hlk : Cond.methodLink own index y ∈ lw_all) (hs : Cond.sameMethod y.cls y.cls y.name y.desc ∈ lw_all) (hp : Cond.privateMethod y ∈ lw_tbl) (hi : Cond.instanceMethod y ∈ lw_all) (hini : Cond.initialized y.cls ∈ lw_all) (hcode : Cond.code y bytes maxL ret2 ∈ lw_all) (hb : h b = some (o, ob ci fs)) (hcl : gcl[ci]? = some q) (hqC : q.1 = C) (hd : decode cc pc = .ok (.invokevirtual index, 3)) (na : Nat) (hst : st0 = As.reverse ++ .ref b :: rest) (hy : y.cls ≠ "java/lang/invoke/MethodHandle" ∧ y.cls ≠ "java/lang/invoke/VarHandle" ∧ (parseMethodDescriptor y.desc).map (fun d => d.parameters.length) = some na) (hna : As.length = na) (hrm : rm2.frames + 1 ≤ rm.frames ∧ 8 + (maxL + 11) + rm2.locals ≤ rm.locals) (hcat : (rest.map fun v => v.category).sum ≤ 8) (hk : rm2.cells ≤ k) (hn : rm2.slots ≤ n) (kx : ∀ (E : String) (h' : PH), QE E h' → GoX X G h' (k - rm2.cells) (n - rm2.slots) pc lv E) (kk : ∀ (v : Option Value) (h' : PH), Q v h' → Go X G h' (k - rm2.cells) (n - rm2.slots) (pc + 3) lv (psh v rest)) : Go X G h k n pc lv st0 := by
  intro H locs cells slots ls hR hS hl q1 q2
  have hL := hC.2.2.2.2.1
  have hr := hC.2.2.2.2.2.2.2.2.2.1
  subst hst
  subst hna
  subst hqC
  have hG : GoodIn lw_all (ws_ y bytes maxL ret2) := lw_meth hcode
  have hpr : (Cond.privateMethod y).before (xa X) (xs X) = true := by
    have e := Cond.onTables_vm (A := #[]) (A' := xa X) (U := xs X) (U' := xs X) (xs X).vm (Cond.privateMethod y) rfl
    have hU : (xs X).setVm (xs X).vm = xs X := rfl
    rw [hU] at e
    rw [← e]
    exact hC.2.2.2.2.2.1.2.1 _ hp rfl
  have hlen : ∀ sig, parseMethodDescriptor y.desc = some sig → As.length = sig.parameters.length := fun sig h9 => by
    have h2 := hy.2.2
    rw [h9] at h2
    exact (Option.some.inj h2).symm
  have cw : va_CU (xR X) (xs X) (xa X) own q.1 y.cls index y y bytes maxL ret2 (ws_ y bytes maxL ret2) rm2 rm2.cells rm2.slots As.length := ⟨⟨rfl, rfl, by rw [hr]; exact hrm.1, by rw [hr]; exact hrm.2, pay_in hL hG, List.mem_cons_self⟩, hL _ hcode, hL _ hini, ⟨hy.1, hy.2.1⟩, hlen, hL _ hlk, hL _ hs, va_Decl.of (hL _ hi) (hL _ hcode), sel_priv (hL _ hins) (hL _ hs) hpr (hL _ hi), hL _ hi⟩
  exact run_go rfl (vx_runU ⟨hC.1, hC.2.1, hC.2.2.1, hC.2.2.2.1, hC.2.2.2.2.1⟩ (hM hC.2.2.2.2.2.2.2.2.2.2) cw ⟨PC.blind, hR.recv hC.2.2.2.2.2.1.1 hb hcl, PC.now hC hR hS⟩ rfl rfl (hl.1.trans hC.2.2.1) rfl (lv_room hcat) hd ⟨by omega, by omega⟩) hS hl q1 q2 hk hn kx kk
theorem go_callP (hC : CxOK X G cc nL own ret rm) {C : String} {N ci : Nat} {fs : List Value} {q : vw_C} (hM : CT G y bytes maxL ret2 rm2 (.ref b :: As) h Q noX) (hins : Cond.instantiable C N ∈ lw_all) (hlk : Cond.methodLink own index y ∈ lw_all) (hs : Cond.sameMethod y.cls y.cls y.name y.desc ∈ lw_all) (hp : Cond.privateMethod y ∈ lw_tbl) (hi : Cond.instanceMethod y ∈ lw_all) (hini : Cond.initialized y.cls ∈ lw_all) (hcode : Cond.code y bytes maxL ret2 ∈ lw_all) (hb : h b = some (o, ob ci fs)) (hcl : gcl[ci]? = some q) (hqC : q.1 = C) (hd : decode cc pc = .ok (.invokevirtual index, 3)) (na : Nat) (hst : st0 = As.reverse ++ .ref b :: rest) (hy : y.cls ≠ "java/lang/invoke/MethodHandle" ∧ y.cls ≠ "java/lang/invoke/VarHandle" ∧ (parseMethodDescriptor y.desc).map (fun d => d.parameters.length) = some na) (hna : As.length = na) (hrm : rm2.frames + 1 ≤ rm.frames ∧ 8 + (maxL + 11) + rm2.locals ≤ rm.locals) (hcat : (rest.map fun v => v.category).sum ≤ 8) (hk : rm2.cells ≤ k) (hn : rm2.slots ≤ n) (kk : ∀ (v : Option Value) (h' : PH), Q v h' → Go X G h' (k - rm2.cells) (n - rm2.slots) (pc + 3) lv (psh v rest)) : Go X G h k n pc lv st0 :=
  go_callPX hC hM hins hlk hs hp hi hini hcode hb hcl hqC hd na hst hy hna hrm hcat hk hn (fun E h' z => z.elim) kk
theorem go_callP0 (hC : CxOK X G cc nL own ret rm) {C : String} {N ci : Nat} {fs : List Value} {q : vw_C} (hM : CT G y bytes maxL ret2 rm2 (.ref b :: As) h Q noX) (hins : Cond.instantiable C N ∈ lw_all) (hlk : Cond.methodLink own index y ∈ lw_all) (hs : Cond.sameMethod y.cls y.cls y.name y.desc ∈ lw_all) (hp : Cond.privateMethod y ∈ lw_tbl) (hi : Cond.instanceMethod y ∈ lw_all) (hini : Cond.initialized y.cls ∈ lw_all) (hcode : Cond.code y bytes maxL ret2 ∈ lw_all) (hb : h b = some (o, ob ci fs)) (hcl : gcl[ci]? = some q) (hqC : q.1 = C) (hd : decode cc pc = .ok (.invokevirtual index, 3)) (na : Nat) (hst : st0 = As.reverse ++ .ref b :: rest) (hy : y.cls ≠ "java/lang/invoke/MethodHandle" ∧ y.cls ≠ "java/lang/invoke/VarHandle" ∧ (parseMethodDescriptor y.desc).map (fun d => d.parameters.length) = some na) (hna : As.length = na) (hrm : rm2.frames + 1 ≤ rm.frames ∧ 8 + (maxL + 11) + rm2.locals ≤ rm.locals) (hcat : (rest.map fun v => v.category).sum ≤ 8) (hz : rm2.cells = 0 ∧ rm2.slots = 0) (kk : ∀ (v : Option Value) (h' : PH), Q v h' → Go X G h' k n (pc + 3) lv (psh v rest)) : Go X G h k n pc lv st0 :=
  go_callPX hC hM hins hlk hs hp hi hini hcode hb hcl hqC hd na hst hy hna hrm hcat (by rw [hz.1]; exact Nat.zero_le _) (by rw [hz.2]; exact Nat.zero_le _) (fun E h' z => z.elim) (fun v h' q => by rw [hz.1, hz.2]; exact kk v h' q)
theorem go_callSUX (hC : CxOK X G cc nL own ret rm) {ci : Nat} {fs : List Value} {q : vw_C} (hM : CT G y bytes maxL ret2 rm2 (.ref b :: As) h Q QE) (hw : GoodIn lw_all (va_wsSU own index y (ws_ y bytes maxL ret2))) (hb : h b = some (o, ob ci fs)) (hcl : gcl[ci]? = some q) (hd : decode cc pc = .ok (.invokespecial index, 3)) (na : Nat) (hst : st0 = As.reverse ++ .ref b :: rest) (hy : y.name ≠ "<init>" ∧ (parseMethodDescriptor y.desc).map (fun d => d.parameters.length) = some na) (hna : As.length = na) (hrm : rm2.frames + 1 ≤ rm.frames ∧ 8 + (maxL + 11) + rm2.locals ≤ rm.locals) (hcat : (rest.map fun v => v.category).sum ≤ 8) (hk : rm2.cells ≤ k) (hn : rm2.slots ≤ n) (kx : ∀ (E : String) (h' : PH), QE E h' → GoX X G h' (k - rm2.cells) (n - rm2.slots) pc lv E) (kk : ∀ (v : Option Value) (h' : PH), Q v h' → Go X G h' (k - rm2.cells) (n - rm2.slots) (pc + 3) lv (psh v rest)) : Go X G h k n pc lv st0 := by
  intro H locs cells slots ls hR hS hl q1 q2
  have hr := hC.2.2.2.2.2.2.2.2.2.1
  subst hst
  subst hna
  exact run_go rfl (vx_runSU (hC.2.2.2.2.2.1.1.1 ci q hcl).2 ⟨hC.1, hC.2.1, hC.2.2.1, hC.2.2.2.1, hC.2.2.2.2.1⟩ (hM hC.2.2.2.2.2.2.2.2.2.2) (va_cwSU As.length hC.2.2.2.2.1 hw rfl rfl rfl hy (by rw [hr]; exact hrm)) ⟨PC.blind, hR.recv hC.2.2.2.2.2.1.1 hb hcl, PC.now hC hR hS⟩ rfl rfl (hl.1.trans hC.2.2.1) rfl (lv_room hcat) hd ⟨by omega, by omega⟩) hS hl q1 q2 hk hn kx kk
theorem go_callSU (hC : CxOK X G cc nL own ret rm) {ci : Nat} {fs : List Value} {q : vw_C} (hM : CT G y bytes maxL ret2 rm2 (.ref b :: As) h Q noX) (hw : GoodIn lw_all (va_wsSU own index y (ws_ y bytes maxL ret2))) (hb : h b = some (o, ob ci fs)) (hcl : gcl[ci]? = some q) (hd : decode cc pc = .ok (.invokespecial index, 3)) (na : Nat) (hst : st0 = As.reverse ++ .ref b :: rest) (hy : y.name ≠ "<init>" ∧ (parseMethodDescriptor y.desc).map (fun d => d.parameters.length) = some na) (hna : As.length = na) (hrm : rm2.frames + 1 ≤ rm.frames ∧ 8 + (maxL + 11) + rm2.locals ≤ rm.locals) (hcat : (rest.map fun v => v.category).sum ≤ 8) (hk : rm2.cells ≤ k) (hn : rm2.slots ≤ n) (kk : ∀ (v : Option Value) (h' : PH), Q v h' → Go X G h' (k - rm2.cells) (n - rm2.slots) (pc + 3) lv (psh v rest)) : Go X G h k n pc lv st0 :=
  go_callSUX hC hM hw hb hcl hd na hst hy hna hrm hcat hk hn (fun E h' z => z.elim) kk
theorem go_callSU0 (hC : CxOK X G cc nL own ret rm) {ci : Nat} {fs : List Value} {q : vw_C} (hM : CT G y bytes maxL ret2 rm2 (.ref b :: As) h Q noX) (hw : GoodIn lw_all (va_wsSU own index y (ws_ y bytes maxL ret2))) (hb : h b = some (o, ob ci fs)) (hcl : gcl[ci]? = some q) (hd : decode cc pc = .ok (.invokespecial index, 3)) (na : Nat) (hst : st0 = As.reverse ++ .ref b :: rest) (hy : y.name ≠ "<init>" ∧ (parseMethodDescriptor y.desc).map (fun d => d.parameters.length) = some na) (hna : As.length = na) (hrm : rm2.frames + 1 ≤ rm.frames ∧ 8 + (maxL + 11) + rm2.locals ≤ rm.locals) (hcat : (rest.map fun v => v.category).sum ≤ 8) (hz : rm2.cells = 0 ∧ rm2.slots = 0) (kk : ∀ (v : Option Value) (h' : PH), Q v h' → Go X G h' k n (pc + 3) lv (psh v rest)) : Go X G h k n pc lv st0 :=
  go_callSUX hC hM hw hb hcl hd na hst hy hna hrm hcat (by rw [hz.1]; exact Nat.zero_le _) (by rw [hz.2]; exact Nat.zero_le _) (fun E h' z => z.elim) (fun v h' q => by rw [hz.1, hz.2]; exact kk v h' q)
/-- getClass() of an array of objects -/
theorem go_getC (hC : CxOK X G cc nL own ret rm) {m : Nat} {f : Nat → Option Nat} (hf : h a = some (o, oa G 4 m f)) (hlink : Cond.methodLink own index ⟨"java/lang/Object", "getClass", "()Ljava/lang/Class;"⟩ ∈ lw_all) (hsel : Cond.selects "[Ljava/lang/Object;" ⟨"java/lang/Object", "getClass", "()Ljava/lang/Class;"⟩ ⟨"java/lang/Object", "getClass", "()Ljava/lang/Class;"⟩ ∈ lw_all) (hrm : 1 ≤ rm.frames ∧ 80 ≤ rm.locals) (hcat : (rest.map fun v => v.category).sum ≤ 8) (hd : decode cc pc = .ok (.invokevirtual index, 3)) (kk : Go X G h k n (pc + 3) lv (.ref (gS G 3) :: rest)) : Go X G h k n pc lv (.ref a :: rest) := by
  intro H locs cells slots ls hR hS hl q1 q2
  have hr := hC.2.2.2.2.2.2.2.2.2.1
  have hcell : H[a]? = some (vp_cell (gA G 4) (m, .inr (.inr (.inr (.inr f))))) := (hR _ _ _ hf).2
  have hra : va_RA (xs X) (gA G 4) (.object "java/lang/Object") := (hC.2.2.2.2.2.1.1.2 4 _ rfl).2
  exact va_getC hC.1 hC.2.1 hl.1.symm hC.2.2.2.1 (hC.2.2.2.2.1 _ hlink) (va_Dc.use (hC.2.2.2.2.2.1.2.1 _ q2103 rfl)) (hC.2.2.2.2.1 _ hsel) (hC.2.2.2.2.1 _ q884) (hC.2.2.2.2.1 _ q906) hC.2.2.2.2.2.1.2.2.2.1.2.2.2.2 ⟨_, hcell, rfl, va_nmO hra rfl⟩ (by rw [hr]; exact hrm.1) (by rw [hr]; omega) hd (kk H locs cells slots ls hR hS hl q1 q2)
/-- the class constant Object[].class -/
theorem go_ldcC (hC : CxOK X G cc nL own ret rm) (hlink : Cond.classLink own index "[Ljava/lang/Object;" ∈ lw_all) (hd : decode cc pc = .ok (.ldc index, 2)) (kk : Go X G h k n (pc + 2) lv (.ref (gS G 3) :: rest)) : Go X G h k n pc lv rest := by
  intro H locs cells slots ls hR hS hl q1 q2
  exact va_ldcM hC.1 hC.2.1 hC.2.2.2.1 (hC.2.2.2.2.1 _ hlink) hC.2.2.2.2.2.1.2.2.2.1.2.2.2.2 hd (kk H locs cells slots ls hR hS hl q1 q2)
end FR2
abbrev nfX1 : List Value := [.null, .null, .null, .null, .long 0]
theorem dfX1 : ∀ j, j < 5 → defaultValue (tyX1 j) = vp_V nfX1 j := fun j hj => match j, hj with
  | 0, _ => rfl
  | 1, _ => rfl
  | 2, _ => rfl
  | 3, _ => rfl
  | 4, _ => rfl
  | j + 5, z => absurd z (by omega)
abbrev nfX2 : List Value := [.null, .null, .null, .null, .null, .int 0, .int 0, .int 0, .int 0, .int 0, .int 0]
theorem dfX2 : ∀ j, j < 11 → defaultValue (tyX2 j) = vp_V nfX2 j := fun j hj => match j, hj with
  | 0, _ => rfl
  | 1, _ => rfl
  | 2, _ => rfl
  | 3, _ => rfl
  | 4, _ => rfl
  | 5, _ => rfl
  | 6, _ => rfl
  | 7, _ => rfl
  | 8, _ => rfl
  | 9, _ => rfl
  | 10, _ => rfl
  | j + 11, z => absurd z (by omega)
abbrev nfX4 : List Value := [.null, .int 0, .int 0]
theorem dfX4 : ∀ j, j < 3 → defaultValue (tyX4 j) = vp_V nfX4 j := fun j hj => match j, hj with
  | 0, _ => rfl
  | 1, _ => rfl
  | 2, _ => rfl
  | j + 3, z => absurd z (by omega)
abbrev nfX5 : List Value := [.int 0]
theorem dfX5 : ∀ j, j < 1 → defaultValue (tyX5 j) = vp_V nfX5 j := fun j hj => match j, hj with
  | 0, _ => rfl
  | j + 1, z => absurd z (by omega)
abbrev nfX6 : List Value := [.null, .int 0, .null]
theorem dfX6 : ∀ j, j < 3 → defaultValue (tyX6 j) = vp_V nfX6 j := fun j hj => match j, hj with
  | 0, _ => rfl
  | 1, _ => rfl
  | 2, _ => rfl
  | j + 3, z => absurd z (by omega)
abbrev nfX7 : List Value := [.null, .null, .null, .int 0]
theorem dfX7 : ∀ j, j < 4 → defaultValue (tyX7 j) = vp_V nfX7 j := fun j hj => match j, hj with
  | 0, _ => rfl
  | 1, _ => rfl
  | 2, _ => rfl
  | 3, _ => rfl
  | j + 4, z => absurd z (by omega)
abbrev nfX3 : List Value := [.int 0, .null, .null, .null, .int 0, .null, .int 0, .int 0, .int 0, .null, .int 0, .null, .null, .null, .null, .long 0]
theorem dfX3 : ∀ j, j < 16 → defaultValue (tyX3 j) = vp_V nfX3 j := fun j hj => match j, hj with
  | 0, _ => rfl
  | 1, _ => rfl
  | 2, _ => rfl
  | 3, _ => rfl
  | 4, _ => rfl
  | 5, _ => rfl
  | 6, _ => rfl
  | 7, _ => rfl
  | 8, _ => rfl
  | 9, _ => rfl
  | 10, _ => rfl
  | 11, _ => rfl
  | 12, _ => rfl
  | 13, _ => rfl
  | 14, _ => rfl
  | 15, _ => rfl
  | j + 16, z => absurd z (by omega)
abbrev nfJ2 : List Value := [.int 0, .null, .int 0]
theorem dfJ2 : ∀ j, j < 3 → defaultValue (tyJ2 j) = vp_V nfJ2 j := fun j hj => match j, hj with
  | 0, _ => rfl
  | 1, _ => rfl
  | 2, _ => rfl
  | j + 3, z => absurd z (by omega)
abbrev nfJ4 : List Value := [.null, .null, .null, .null, .int 0, .int 0, .int 0, .float 0]
theorem dfJ4 : ∀ j, j < 8 → defaultValue (tyJ4 j) = vp_V nfJ4 j := fun j hj => match j, hj with
  | 0, _ => rfl
  | 1, _ => rfl
  | 2, _ => rfl
  | 3, _ => rfl
  | 4, _ => rfl
  | 5, _ => rfl
  | 6, _ => rfl
  | 7, _ => rfl
  | j + 8, z => absurd z (by omega)
abbrev nfJ23 : List Value := [.int 0, .null, .null, .null]
theorem dfJ23 : ∀ j, j < 4 → defaultValue (tyJ23 j) = vp_V nfJ23 j := fun j hj => match j, hj with
  | 0, _ => rfl
  | 1, _ => rfl
  | 2, _ => rfl
  | 3, _ => rfl
  | j + 4, z => absurd z (by omega)
abbrev nfJ6 : List Value := [.null, .int 0, .int 0, .int 0]
theorem dfJ6 : ∀ j, j < 4 → defaultValue (tyJ6 j) = vp_V nfJ6 j := fun j hj => match j, hj with
  | 0, _ => rfl
  | 1, _ => rfl
  | 2, _ => rfl
  | 3, _ => rfl
  | j + 4, z => absurd z (by omega)
