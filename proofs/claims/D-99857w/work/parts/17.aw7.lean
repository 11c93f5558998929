/-! ===== which call comes to which method ===== -/
set_option maxRecDepth 100000
def xnm (y : MethodName) : Prop := y.cls ≠ "java/lang/invoke/MethodHandle" ∧ y.cls ≠ "java/lang/invoke/VarHandle"
theorem xrv {b : Addr} {tl rest : List Value} : (Value.ref b :: tl).reverse ++ rest = tl.reverse ++ .ref b :: rest := by rw [List.reverse_cons, List.append_assoc]; rfl
theorem xln {d : String} {n : Nat} (h : (parseMethodDescriptor d).map (fun d => d.parameters.length) = some n) {As : List Value} (hn : As.length = n) : ∀ sig, parseMethodDescriptor d = some sig → As.length = sig.parameters.length := by
  intro sig hs
  rw [hs] at h
  exact hn.trans (Option.some.inj h).symm
theorem xln1 {b : Value} {tl : List Value} {n : Nat} (h : (b :: tl).length = n + 1) : tl.length = n := Nat.succ.inj h
theorem xLk.V {own : String} {idx ci n nL : Nat} {y : MethodName} {bytes : ByteArray} {ret : Option FieldType} {hh : List (Nat × Nat × Nat × Nat)} {r : vw_C} (h1 : Cond.methodLink own idx y ∈ lw_all) (h2 : Cond.instanceMethod y ∈ lw_all) (h3 : Cond.selects r.1 y y ∈ lw_all) (h4 : Cond.code y bytes nL ret ∈ lw_all) (hr : xCl[ci]? = some r) (hy : xnm y) (hd0 : (parseMethodDescriptor y.desc).map (fun d => d.parameters.length) = some n) : xLk (.invokevirtual idx) (some ci) own y (n + 1) := by
  intro p l e R s m args below meth c T locs cells slots X hx hown hts hN Pre Post PostX hK g hg hsz As rest hn hrc hst hW hd hpre
  obtain ⟨b, tl, cellB, r', rfl, hr', g1, g2, g3⟩ := hrc ci rfl
  cases Option.some.inj (hr.symm.trans hr')
  exact vx_callV X hx hown (hts _ h1) (hts _ h2) (hts _ h3) (hts _ h4) hy hK g1 g2 g3 hg hsz (xln hd0 (xln1 hn)) (hst.trans xrv) hW hd hpre
theorem xLk.VH {own : String} {idx ci n nL : Nat} {y : MethodName} {bytes : ByteArray} {ret : Option FieldType} {hh : List (Nat × Nat × Nat × Nat)} {r : vw_C} (h1 : Cond.methodLink own idx y ∈ lw_all) (h2 : Cond.instanceMethod y ∈ lw_all) (h3 : Cond.selects r.1 y y ∈ lw_all) (h4 : Cond.codeWith y bytes nL ret hh ∈ lw_all) (hr : xCl[ci]? = some r) (hy : xnm y) (hd0 : (parseMethodDescriptor y.desc).map (fun d => d.parameters.length) = some n) : xLk (.invokevirtual idx) (some ci) own y (n + 1) := by
  intro p l e R s m args below meth c T locs cells slots X hx hown hts hN Pre Post PostX hK g hg hsz As rest hn hrc hst hW hd hpre
  obtain ⟨b, tl, cellB, r', rfl, hr', g1, g2, g3⟩ := hrc ci rfl
  cases Option.some.inj (hr.symm.trans hr')
  exact vx_callVX X hx hown (hts _ h1) (hts _ h2) (hts _ h3) (hts _ h4) hy hK g1 g2 g3 hg hsz (xln hd0 (xln1 hn)) (hst.trans xrv) hW hd hpre
theorem xLk.VN {own host : String} {idx ci n nL : Nat} {y : MethodName} {bytes : ByteArray} {ret : Option FieldType} {r : vw_C} (h1 : Cond.methodLinkNest own idx y host ∈ lw_tbl) (h2 : Cond.instanceMethod y ∈ lw_all) (h3 : Cond.selects r.1 y y ∈ lw_all) (h4 : Cond.code y bytes nL ret ∈ lw_all) (hr : xCl[ci]? = some r) (hy : xnm y) (hd0 : (parseMethodDescriptor y.desc).map (fun d => d.parameters.length) = some n) : xLk (.invokevirtual idx) (some ci) own y (n + 1) := by
  intro p l e R s m args below meth c T locs cells slots X hx hown hts hN Pre Post PostX hK g hg hsz As rest hn hrc hst hW hd hpre
  obtain ⟨b, tl, cellB, r', rfl, hr', g1, g2, g3⟩ := hrc ci rfl
  cases Option.some.inj (hr.symm.trans hr')
  exact vx_callVN X hx hown (va_Nw.use rfl (hN _ (xNw_in h1 rfl))) (hts _ h2) (hts _ h3) (hts _ h4) hy hK g1 g2 g3 hg hsz (xln hd0 (xln1 hn)) (hst.trans xrv) hW hd hpre
theorem xLk.S {own : String} {idx n nL : Nat} {y : MethodName} {bytes : ByteArray} {ret : Option FieldType} (h1 : Cond.methodLink own idx y ∈ lw_all) (h2 : Cond.static y ∈ lw_all) (h3 : Cond.initialized y.cls ∈ lw_all) (h4 : Cond.code y bytes nL ret ∈ lw_all) (hy : xnm y) (hd0 : (parseMethodDescriptor y.desc).map (fun d => d.parameters.length) = some n) : xLk (.invokestatic idx) (none) own y (n) := by
  intro p l e R s m args below meth c T locs cells slots X hx hown hts hN Pre Post PostX hK g hg hsz As rest hn hrc hst hW hd hpre
  exact vx_callS X hx hown (hts _ h1) (hts _ h2) (hts _ h3) (hts _ h4) hy hK hg hsz (xln hd0 hn) hst hW hd hpre
theorem xLk.SN {own host : String} {idx n nL : Nat} {y : MethodName} {bytes : ByteArray} {ret : Option FieldType} (h1 : Cond.methodLinkNest own idx y host ∈ lw_tbl) (h2 : Cond.static y ∈ lw_all) (h3 : Cond.initialized y.cls ∈ lw_all) (h4 : Cond.code y bytes nL ret ∈ lw_all) (hy : xnm y) (hd0 : (parseMethodDescriptor y.desc).map (fun d => d.parameters.length) = some n) : xLk (.invokestatic idx) (none) own y (n) := by
  intro p l e R s m args below meth c T locs cells slots X hx hown hts hN Pre Post PostX hK g hg hsz As rest hn hrc hst hW hd hpre
  exact vx_callSN X hx hown (va_Nw.use rfl (hN _ (xNw_in h1 rfl))) (hts _ h2) (hts _ h3) (hts _ h4) hy hK hg hsz (xln hd0 hn) hst hW hd hpre
theorem xLk.I {own host : String} {idx n nL ci : Nat} {y : MethodName} {bytes : ByteArray} (hy1 : y.name = "<init>") (h1 : Cond.methodLink own idx y ∈ lw_all) (h2 : Cond.instanceMethod y ∈ lw_all) (h4 : Cond.code y bytes nL none ∈ lw_all) (hy : xnm y) (hd0 : (parseMethodDescriptor y.desc).map (fun d => d.parameters.length) = some n) : xLk (.invokespecial idx) (some ci) own y (n + 1) := by
  intro p l e R s m args below meth c T locs cells slots X hx hown hts hN Pre Post PostX hK g hg hsz As rest hn hrc hst hW hd hpre
  obtain ⟨b, tl, cellB, r', rfl, hr', g1, g2, g3⟩ := hrc ci rfl
  exact vx_callI X hx hown hy1 (hts _ h1) (hts _ h2) (hts _ h4) hy hK hg hsz (xln hd0 (xln1 hn)) (hst.trans xrv) hW hd hpre
theorem xLk.IN {own host : String} {idx n nL ci : Nat} {y : MethodName} {bytes : ByteArray} (hy1 : y.name = "<init>") (h1 : Cond.methodLinkNest own idx y host ∈ lw_tbl) (h2 : Cond.instanceMethod y ∈ lw_all) (h4 : Cond.code y bytes nL none ∈ lw_all) (hy : xnm y) (hd0 : (parseMethodDescriptor y.desc).map (fun d => d.parameters.length) = some n) : xLk (.invokespecial idx) (some ci) own y (n + 1) := by
  intro p l e R s m args below meth c T locs cells slots X hx hown hts hN Pre Post PostX hK g hg hsz As rest hn hrc hst hW hd hpre
  obtain ⟨b, tl, cellB, r', rfl, hr', g1, g2, g3⟩ := hrc ci rfl
  exact vx_callIN X hx hown hy1 (va_Nw.use rfl (hN _ (xNw_in h1 rfl))) (hts _ h2) (hts _ h4) hy hK hg hsz (xln hd0 (xln1 hn)) (hst.trans xrv) hW hd hpre
theorem xLk.VU {own owner : String} {idx ci n nL : Nat} {x y : MethodName} {bytes : ByteArray} {ret : Option FieldType} {r : vw_C} (h1 : Cond.methodLink own idx x ∈ lw_all) (h5 : Cond.sameMethod x.cls owner x.name x.desc ∈ lw_all) {b0 : ByteArray} {m0 : Nat} {r0 : Option FieldType} (h6 : Cond.instanceMethod ⟨owner, x.name, x.desc⟩ ∈ lw_all) (h7 : Cond.code ⟨owner, x.name, x.desc⟩ b0 m0 r0 ∈ lw_all) (ho : owner ≠ "java/lang/invoke/MethodHandle" ∧ owner ≠ "java/lang/invoke/VarHandle") (h3 : Cond.selects r.1 x y ∈ lw_all) (h2 : Cond.instanceMethod y ∈ lw_all) (h4 : Cond.code y bytes nL ret ∈ lw_all) (hr : xCl[ci]? = some r) (hd0 : (parseMethodDescriptor x.desc).map (fun d => d.parameters.length) = some n) : xLk (.invokevirtual idx) (some ci) own y (n + 1) := by
  intro p l e R s m args below meth c T locs cells slots X hx hown hts hN Pre Post PostX hK g hg hsz As rest hn hrc hst hW hd hpre
  obtain ⟨b, tl, cellB, r', rfl, hr', g1, g2, g3⟩ := hrc ci rfl
  cases Option.some.inj (hr.symm.trans hr')
  exact vx_callVU X hx hown (hts _ h1) (hts _ h5) (va_Decl.of (hts _ h6) (hts _ h7)) ho (hts _ h3) (hts _ h2) (hts _ h4) hK g1 g2 g3 hg hsz (xln hd0 (xln1 hn)) (hst.trans xrv) hW hd hpre
theorem xLk.SU {own : String} {idx ci n nL : Nat} {y : MethodName} {bytes : ByteArray} {ret : Option FieldType} (h1 : Cond.methodLink own idx y ∈ lw_all) (h5 : Cond.sameMethod y.cls y.cls y.name y.desc ∈ lw_all) (h6 : Cond.superclass own y.cls ∈ lw_all) (h2 : Cond.instanceMethod y ∈ lw_all) (h4 : Cond.code y bytes nL ret ∈ lw_all) (hno : y.name ≠ "<init>") (hd0 : (parseMethodDescriptor y.desc).map (fun d => d.parameters.length) = some n) : xLk (.invokespecial idx) (some ci) own y (n + 1) := by
  intro p l e R s m args below meth c T locs cells slots X hx hown hts hN Pre Post PostX hK g hg hsz As rest hn hrc hst hW hd hpre
  obtain ⟨b, tl, cellB, r', rfl, hr', g1, g2, g3⟩ := hrc ci rfl
  obtain ⟨kB, hkB, -⟩ := Vm.findClass_spec g3
  exact vx_callSU X hx hown (hts _ h1) (hts _ h5) (hts _ h6) (hts _ h2) (hts _ h4) hno hK g1 g2 hkB hg hsz (xln hd0 (xln1 hn)) (hst.trans xrv) hW hd hpre
/-- a private method, whatever the receiver's class -/
theorem xLk.P {own C7 : String} {idx ci n nL : Nat} {x7 y7 y : MethodName} {bytes : ByteArray} {ret : Option FieldType} {r : vw_C} (h1 : Cond.methodLink own idx y ∈ lw_all) (h2 : Cond.instanceMethod y ∈ lw_all) (h3 : Cond.privateMethod y ∈ lw_tbl) (h4 : Cond.code y bytes nL ret ∈ lw_all) (h5 : Cond.initialized y.cls ∈ lw_all) (h7 : Cond.selects C7 x7 y7 ∈ lw_all) (h8 : y7.cls = y.cls) (hr : xCl[ci]? = some r) (hy : xnm y) (hd0 : (parseMethodDescriptor y.desc).map (fun d => d.parameters.length) = some n) : xLk (.invokevirtual idx) (some ci) own y (n + 1) := by
  intro p l e R s m args below meth c T locs cells slots X hx hown hts hN Pre Post PostX hK g hg hsz As rest hn hrc hst hW hd hpre
  obtain ⟨b, tl, cellB, r', rfl, hr', g1, g2, g3⟩ := hrc ci rfl
  cases Option.some.inj (hr.symm.trans hr')
  refine vx_callV X hx hown (hts _ h1) (hts _ h2) ?_ (hts _ h4) hy hK g1 g2 g3 hg hsz (xln hd0 (xln1 hn)) (hst.trans xrv) hW hd hpre
  obtain ⟨mk, methM, hnamed, hmethM, -, -⟩ := Cond.instanceMethod_spec (hts _ h2)
  have hfound : s.methodFound? y.cls y.name y.desc = some mk := State.methodFound?_of_named hnamed hy
  have hpriv : (Cond.privateMethod y).before args s = true := va_Nw.use rfl (hN _ (xNw_in h3 rfl))
  have hsel : selectMethod {} s.vm cellB.cls mk = .method mk := selectMethod_private hmethM (Cond.privateMethod_at hpriv mk methM hnamed hmethM)
  obtain ⟨kP, hkP, -⟩ := className_of_methodNamed hnamed
  obtain ⟨c7, r7, m7, q1, q2, q3, q4, k7, hk7, hf7⟩ := Cond.selects_spec (hts _ h7)
  have e7 : m7.cls = mk.cls := Option.some.inj ((findClass_of_methodNamed q3).symm.trans ((by rw [h8] : s.vm.findClass y7.cls = s.vm.findClass y.cls).trans (findClass_of_methodNamed hnamed)))
  rw [e7, hkP] at hk7
  cases hk7
  simp only [Cond.before, Cond.holds, Cond.value, g3, hfound, hnamed, hsel, hkP]
  simp
  exact hf7
section XCR
variable {Γ : xG} {cc : ByteArray} {kc ks pc : Nat} {l : List (Option Value)} {st : List Value} {h : xH}
/-- the contract of a method that makes nothing and returns v, the heap then h' -/
def xret (v : Option Value) (h' : xH) : xO → xH → Prop := fun o hh => o = .inl v ∧ hh = h'
theorem x_callV0 {i : Instr} {ci : Nat} {fs : List Value} {own : String} {y : MethodName} {cc' : ByteArray} {nL' : Nat} {ret' : Option FieldType} {hh' : List (Nat × Nat × Nat × Nat)} {d' b : Nat} {v : Option Value} {h' : xH}
    (lk : xLk i (some ci) own y 1) (ct : CT (gw Γ) y cc' nL' ret' hh' false d' 0 0 [.ref b] h (xret v h')) (ho : gown Γ = own) (d : decode cc pc = .ok (i, 3)) (hrc : h b = some (.inr (ci, fs))) (hW : (st.map fun v => v.category).sum ≤ 8) (hd : d' + 1 ≤ gd Γ) (hnL : nL' ≤ 40) (hc : kc ≤ gmc Γ) (hs : ks ≤ gms Γ)
    (kk : AW Γ cc kc ks (pc + 3) l (v.toList ++ st) h') : AW Γ cc kc ks pc l (.ref b :: st) h :=
  x_call lk ct ho d rfl rfl (fun c e => ⟨b, _, fs, rfl, by cases e; exact hrc⟩) hW hd hnL hc hs (fun q => by cases q) (fun v' h2 q => by obtain ⟨e1, e2⟩ := q; cases e1; subst e2; exact kk) (fun E nm h2 q => by obtain ⟨e1, -⟩ := q; cases e1)
theorem x_callV1 {i : Instr} {ci : Nat} {fs : List Value} {own : String} {y : MethodName} {cc' : ByteArray} {nL' : Nat} {ret' : Option FieldType} {hh' : List (Nat × Nat × Nat × Nat)} {d' b : Nat} {a1 : Value} {v : Option Value} {h' : xH}
    (lk : xLk i (some ci) own y 2) (ct : CT (gw Γ) y cc' nL' ret' hh' false d' 0 0 [.ref b, a1] h (xret v h')) (ho : gown Γ = own) (d : decode cc pc = .ok (i, 3)) (hrc : h b = some (.inr (ci, fs))) (hW : (st.map fun v => v.category).sum ≤ 8) (hd : d' + 1 ≤ gd Γ) (hnL : nL' ≤ 40) (hc : kc ≤ gmc Γ) (hs : ks ≤ gms Γ)
    (kk : AW Γ cc kc ks (pc + 3) l (v.toList ++ st) h') : AW Γ cc kc ks pc l (a1 :: .ref b :: st) h :=
  x_call lk ct ho d rfl rfl (fun c e => ⟨b, _, fs, rfl, by cases e; exact hrc⟩) hW hd hnL hc hs (fun q => by cases q) (fun v' h2 q => by obtain ⟨e1, e2⟩ := q; cases e1; subst e2; exact kk) (fun E nm h2 q => by obtain ⟨e1, -⟩ := q; cases e1)
theorem x_callV2 {i : Instr} {ci : Nat} {fs : List Value} {own : String} {y : MethodName} {cc' : ByteArray} {nL' : Nat} {ret' : Option FieldType} {hh' : List (Nat × Nat × Nat × Nat)} {d' b : Nat} {a1 a2 : Value} {v : Option Value} {h' : xH}
    (lk : xLk i (some ci) own y 3) (ct : CT (gw Γ) y cc' nL' ret' hh' false d' 0 0 [.ref b, a1, a2] h (xret v h')) (ho : gown Γ = own) (d : decode cc pc = .ok (i, 3)) (hrc : h b = some (.inr (ci, fs))) (hW : (st.map fun v => v.category).sum ≤ 8) (hd : d' + 1 ≤ gd Γ) (hnL : nL' ≤ 40) (hc : kc ≤ gmc Γ) (hs : ks ≤ gms Γ)
    (kk : AW Γ cc kc ks (pc + 3) l (v.toList ++ st) h') : AW Γ cc kc ks pc l (a2 :: a1 :: .ref b :: st) h :=
  x_call lk ct ho d rfl rfl (fun c e => ⟨b, _, fs, rfl, by cases e; exact hrc⟩) hW hd hnL hc hs (fun q => by cases q) (fun v' h2 q => by obtain ⟨e1, e2⟩ := q; cases e1; subst e2; exact kk) (fun E nm h2 q => by obtain ⟨e1, -⟩ := q; cases e1)
theorem x_callV3 {i : Instr} {ci : Nat} {fs : List Value} {own : String} {y : MethodName} {cc' : ByteArray} {nL' : Nat} {ret' : Option FieldType} {hh' : List (Nat × Nat × Nat × Nat)} {d' b : Nat} {a1 a2 a3 : Value} {v : Option Value} {h' : xH}
    (lk : xLk i (some ci) own y 4) (ct : CT (gw Γ) y cc' nL' ret' hh' false d' 0 0 [.ref b, a1, a2, a3] h (xret v h')) (ho : gown Γ = own) (d : decode cc pc = .ok (i, 3)) (hrc : h b = some (.inr (ci, fs))) (hW : (st.map fun v => v.category).sum ≤ 8) (hd : d' + 1 ≤ gd Γ) (hnL : nL' ≤ 40) (hc : kc ≤ gmc Γ) (hs : ks ≤ gms Γ)
    (kk : AW Γ cc kc ks (pc + 3) l (v.toList ++ st) h') : AW Γ cc kc ks pc l (a3 :: a2 :: a1 :: .ref b :: st) h :=
  x_call lk ct ho d rfl rfl (fun c e => ⟨b, _, fs, rfl, by cases e; exact hrc⟩) hW hd hnL hc hs (fun q => by cases q) (fun v' h2 q => by obtain ⟨e1, e2⟩ := q; cases e1; subst e2; exact kk) (fun E nm h2 q => by obtain ⟨e1, -⟩ := q; cases e1)
theorem x_callV4 {i : Instr} {ci : Nat} {fs : List Value} {own : String} {y : MethodName} {cc' : ByteArray} {nL' : Nat} {ret' : Option FieldType} {hh' : List (Nat × Nat × Nat × Nat)} {d' b : Nat} {a1 a2 a3 a4 : Value} {v : Option Value} {h' : xH}
    (lk : xLk i (some ci) own y 5) (ct : CT (gw Γ) y cc' nL' ret' hh' false d' 0 0 [.ref b, a1, a2, a3, a4] h (xret v h')) (ho : gown Γ = own) (d : decode cc pc = .ok (i, 3)) (hrc : h b = some (.inr (ci, fs))) (hW : (st.map fun v => v.category).sum ≤ 8) (hd : d' + 1 ≤ gd Γ) (hnL : nL' ≤ 40) (hc : kc ≤ gmc Γ) (hs : ks ≤ gms Γ)
    (kk : AW Γ cc kc ks (pc + 3) l (v.toList ++ st) h') : AW Γ cc kc ks pc l (a4 :: a3 :: a2 :: a1 :: .ref b :: st) h :=
  x_call lk ct ho d rfl rfl (fun c e => ⟨b, _, fs, rfl, by cases e; exact hrc⟩) hW hd hnL hc hs (fun q => by cases q) (fun v' h2 q => by obtain ⟨e1, e2⟩ := q; cases e1; subst e2; exact kk) (fun E nm h2 q => by obtain ⟨e1, -⟩ := q; cases e1)
theorem x_callV5 {i : Instr} {ci : Nat} {fs : List Value} {own : String} {y : MethodName} {cc' : ByteArray} {nL' : Nat} {ret' : Option FieldType} {hh' : List (Nat × Nat × Nat × Nat)} {d' b : Nat} {a1 a2 a3 a4 a5 : Value} {v : Option Value} {h' : xH}
    (lk : xLk i (some ci) own y 6) (ct : CT (gw Γ) y cc' nL' ret' hh' false d' 0 0 [.ref b, a1, a2, a3, a4, a5] h (xret v h')) (ho : gown Γ = own) (d : decode cc pc = .ok (i, 3)) (hrc : h b = some (.inr (ci, fs))) (hW : (st.map fun v => v.category).sum ≤ 8) (hd : d' + 1 ≤ gd Γ) (hnL : nL' ≤ 40) (hc : kc ≤ gmc Γ) (hs : ks ≤ gms Γ)
    (kk : AW Γ cc kc ks (pc + 3) l (v.toList ++ st) h') : AW Γ cc kc ks pc l (a5 :: a4 :: a3 :: a2 :: a1 :: .ref b :: st) h :=
  x_call lk ct ho d rfl rfl (fun c e => ⟨b, _, fs, rfl, by cases e; exact hrc⟩) hW hd hnL hc hs (fun q => by cases q) (fun v' h2 q => by obtain ⟨e1, e2⟩ := q; cases e1; subst e2; exact kk) (fun E nm h2 q => by obtain ⟨e1, -⟩ := q; cases e1)
theorem x_callV6 {i : Instr} {ci : Nat} {fs : List Value} {own : String} {y : MethodName} {cc' : ByteArray} {nL' : Nat} {ret' : Option FieldType} {hh' : List (Nat × Nat × Nat × Nat)} {d' b : Nat} {a1 a2 a3 a4 a5 a6 : Value} {v : Option Value} {h' : xH}
    (lk : xLk i (some ci) own y 7) (ct : CT (gw Γ) y cc' nL' ret' hh' false d' 0 0 [.ref b, a1, a2, a3, a4, a5, a6] h (xret v h')) (ho : gown Γ = own) (d : decode cc pc = .ok (i, 3)) (hrc : h b = some (.inr (ci, fs))) (hW : (st.map fun v => v.category).sum ≤ 8) (hd : d' + 1 ≤ gd Γ) (hnL : nL' ≤ 40) (hc : kc ≤ gmc Γ) (hs : ks ≤ gms Γ)
    (kk : AW Γ cc kc ks (pc + 3) l (v.toList ++ st) h') : AW Γ cc kc ks pc l (a6 :: a5 :: a4 :: a3 :: a2 :: a1 :: .ref b :: st) h :=
  x_call lk ct ho d rfl rfl (fun c e => ⟨b, _, fs, rfl, by cases e; exact hrc⟩) hW hd hnL hc hs (fun q => by cases q) (fun v' h2 q => by obtain ⟨e1, e2⟩ := q; cases e1; subst e2; exact kk) (fun E nm h2 q => by obtain ⟨e1, -⟩ := q; cases e1)
theorem x_callS0 {i : Instr} {own : String} {y : MethodName} {cc' : ByteArray} {nL' : Nat} {ret' : Option FieldType} {hh' : List (Nat × Nat × Nat × Nat)} {d' : Nat} {v : Option Value} {h' : xH}
    (lk : xLk i none own y 0) (ct : CT (gw Γ) y cc' nL' ret' hh' false d' 0 0 [] h (xret v h')) (ho : gown Γ = own) (d : decode cc pc = .ok (i, 3)) (hW : (st.map fun v => v.category).sum ≤ 8) (hd : d' + 1 ≤ gd Γ) (hnL : nL' ≤ 40) (hc : kc ≤ gmc Γ) (hs : ks ≤ gms Γ)
    (kk : AW Γ cc kc ks (pc + 3) l (v.toList ++ st) h') : AW Γ cc kc ks pc l (st) h :=
  x_call lk ct ho d rfl rfl (fun c e => by cases e) hW hd hnL hc hs (fun q => by cases q) (fun v' h2 q => by obtain ⟨e1, e2⟩ := q; cases e1; subst e2; exact kk) (fun E nm h2 q => by obtain ⟨e1, -⟩ := q; cases e1)
theorem x_callS1 {i : Instr} {own : String} {y : MethodName} {cc' : ByteArray} {nL' : Nat} {ret' : Option FieldType} {hh' : List (Nat × Nat × Nat × Nat)} {d' : Nat} {a1 : Value} {v : Option Value} {h' : xH}
    (lk : xLk i none own y 1) (ct : CT (gw Γ) y cc' nL' ret' hh' false d' 0 0 [a1] h (xret v h')) (ho : gown Γ = own) (d : decode cc pc = .ok (i, 3)) (hW : (st.map fun v => v.category).sum ≤ 8) (hd : d' + 1 ≤ gd Γ) (hnL : nL' ≤ 40) (hc : kc ≤ gmc Γ) (hs : ks ≤ gms Γ)
    (kk : AW Γ cc kc ks (pc + 3) l (v.toList ++ st) h') : AW Γ cc kc ks pc l (a1 :: st) h :=
  x_call lk ct ho d rfl rfl (fun c e => by cases e) hW hd hnL hc hs (fun q => by cases q) (fun v' h2 q => by obtain ⟨e1, e2⟩ := q; cases e1; subst e2; exact kk) (fun E nm h2 q => by obtain ⟨e1, -⟩ := q; cases e1)
theorem x_callS2 {i : Instr} {own : String} {y : MethodName} {cc' : ByteArray} {nL' : Nat} {ret' : Option FieldType} {hh' : List (Nat × Nat × Nat × Nat)} {d' : Nat} {a1 a2 : Value} {v : Option Value} {h' : xH}
    (lk : xLk i none own y 2) (ct : CT (gw Γ) y cc' nL' ret' hh' false d' 0 0 [a1, a2] h (xret v h')) (ho : gown Γ = own) (d : decode cc pc = .ok (i, 3)) (hW : (st.map fun v => v.category).sum ≤ 8) (hd : d' + 1 ≤ gd Γ) (hnL : nL' ≤ 40) (hc : kc ≤ gmc Γ) (hs : ks ≤ gms Γ)
    (kk : AW Γ cc kc ks (pc + 3) l (v.toList ++ st) h') : AW Γ cc kc ks pc l (a2 :: a1 :: st) h :=
  x_call lk ct ho d rfl rfl (fun c e => by cases e) hW hd hnL hc hs (fun q => by cases q) (fun v' h2 q => by obtain ⟨e1, e2⟩ := q; cases e1; subst e2; exact kk) (fun E nm h2 q => by obtain ⟨e1, -⟩ := q; cases e1)
theorem x_callS3 {i : Instr} {own : String} {y : MethodName} {cc' : ByteArray} {nL' : Nat} {ret' : Option FieldType} {hh' : List (Nat × Nat × Nat × Nat)} {d' : Nat} {a1 a2 a3 : Value} {v : Option Value} {h' : xH}
    (lk : xLk i none own y 3) (ct : CT (gw Γ) y cc' nL' ret' hh' false d' 0 0 [a1, a2, a3] h (xret v h')) (ho : gown Γ = own) (d : decode cc pc = .ok (i, 3)) (hW : (st.map fun v => v.category).sum ≤ 8) (hd : d' + 1 ≤ gd Γ) (hnL : nL' ≤ 40) (hc : kc ≤ gmc Γ) (hs : ks ≤ gms Γ)
    (kk : AW Γ cc kc ks (pc + 3) l (v.toList ++ st) h') : AW Γ cc kc ks pc l (a3 :: a2 :: a1 :: st) h :=
  x_call lk ct ho d rfl rfl (fun c e => by cases e) hW hd hnL hc hs (fun q => by cases q) (fun v' h2 q => by obtain ⟨e1, e2⟩ := q; cases e1; subst e2; exact kk) (fun E nm h2 q => by obtain ⟨e1, -⟩ := q; cases e1)
theorem x_callS4 {i : Instr} {own : String} {y : MethodName} {cc' : ByteArray} {nL' : Nat} {ret' : Option FieldType} {hh' : List (Nat × Nat × Nat × Nat)} {d' : Nat} {a1 a2 a3 a4 : Value} {v : Option Value} {h' : xH}
    (lk : xLk i none own y 4) (ct : CT (gw Γ) y cc' nL' ret' hh' false d' 0 0 [a1, a2, a3, a4] h (xret v h')) (ho : gown Γ = own) (d : decode cc pc = .ok (i, 3)) (hW : (st.map fun v => v.category).sum ≤ 8) (hd : d' + 1 ≤ gd Γ) (hnL : nL' ≤ 40) (hc : kc ≤ gmc Γ) (hs : ks ≤ gms Γ)
    (kk : AW Γ cc kc ks (pc + 3) l (v.toList ++ st) h') : AW Γ cc kc ks pc l (a4 :: a3 :: a2 :: a1 :: st) h :=
  x_call lk ct ho d rfl rfl (fun c e => by cases e) hW hd hnL hc hs (fun q => by cases q) (fun v' h2 q => by obtain ⟨e1, e2⟩ := q; cases e1; subst e2; exact kk) (fun E nm h2 q => by obtain ⟨e1, -⟩ := q; cases e1)
theorem x_callS5 {i : Instr} {own : String} {y : MethodName} {cc' : ByteArray} {nL' : Nat} {ret' : Option FieldType} {hh' : List (Nat × Nat × Nat × Nat)} {d' : Nat} {a1 a2 a3 a4 a5 : Value} {v : Option Value} {h' : xH}
    (lk : xLk i none own y 5) (ct : CT (gw Γ) y cc' nL' ret' hh' false d' 0 0 [a1, a2, a3, a4, a5] h (xret v h')) (ho : gown Γ = own) (d : decode cc pc = .ok (i, 3)) (hW : (st.map fun v => v.category).sum ≤ 8) (hd : d' + 1 ≤ gd Γ) (hnL : nL' ≤ 40) (hc : kc ≤ gmc Γ) (hs : ks ≤ gms Γ)
    (kk : AW Γ cc kc ks (pc + 3) l (v.toList ++ st) h') : AW Γ cc kc ks pc l (a5 :: a4 :: a3 :: a2 :: a1 :: st) h :=
  x_call lk ct ho d rfl rfl (fun c e => by cases e) hW hd hnL hc hs (fun q => by cases q) (fun v' h2 q => by obtain ⟨e1, e2⟩ := q; cases e1; subst e2; exact kk) (fun E nm h2 q => by obtain ⟨e1, -⟩ := q; cases e1)
theorem x_callS6 {i : Instr} {own : String} {y : MethodName} {cc' : ByteArray} {nL' : Nat} {ret' : Option FieldType} {hh' : List (Nat × Nat × Nat × Nat)} {d' : Nat} {a1 a2 a3 a4 a5 a6 : Value} {v : Option Value} {h' : xH}
    (lk : xLk i none own y 6) (ct : CT (gw Γ) y cc' nL' ret' hh' false d' 0 0 [a1, a2, a3, a4, a5, a6] h (xret v h')) (ho : gown Γ = own) (d : decode cc pc = .ok (i, 3)) (hW : (st.map fun v => v.category).sum ≤ 8) (hd : d' + 1 ≤ gd Γ) (hnL : nL' ≤ 40) (hc : kc ≤ gmc Γ) (hs : ks ≤ gms Γ)
    (kk : AW Γ cc kc ks (pc + 3) l (v.toList ++ st) h') : AW Γ cc kc ks pc l (a6 :: a5 :: a4 :: a3 :: a2 :: a1 :: st) h :=
  x_call lk ct ho d rfl rfl (fun c e => by cases e) hW hd hnL hc hs (fun q => by cases q) (fun v' h2 q => by obtain ⟨e1, e2⟩ := q; cases e1; subst e2; exact kk) (fun E nm h2 q => by obtain ⟨e1, -⟩ := q; cases e1)
/-- a loop: the state at its head by the number of rounds -/
theorem x_for {n : Nat} (S : Nat → List (Option Value)) (T : Nat → List Value) (U : Nat → xH) (hx : AW Γ cc kc ks pc (S n) (T n) (U n)) (hb : ∀ i, i < n → AW Γ cc kc ks pc (S (i + 1)) (T (i + 1)) (U (i + 1)) → AW Γ cc kc ks pc (S i) (T i) (U i)) : AW Γ cc kc ks pc (S 0) (T 0) (U 0) := by
  have : ∀ k, k ≤ n → AW Γ cc kc ks pc (S (n - k)) (T (n - k)) (U (n - k)) := by
    intro k
    induction k with
    | zero => intro _; exact hx
    | succ k ih =>
      intro hk
      have h1 := ih (by omega)
      rw [show n - k = n - (k + 1) + 1 by omega] at h1
      exact hb _ (by omega) h1
  have h2 := this n (Nat.le_refl _)
  rw [Nat.sub_self] at h2
  exact h2
end XCR
