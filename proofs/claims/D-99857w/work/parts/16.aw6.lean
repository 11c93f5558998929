/-! ===== a method's contract; calls ===== -/
set_option maxRecDepth 100000
def xcw (y : MethodName) (cc : ByteArray) (nL : Nat) (ret : Option FieldType) (hh : List (Nat × Nat × Nat × Nat)) : Cond := if hh.isEmpty then Cond.code y cc nL ret else Cond.codeWith y cc nL ret hh
def xPc (w : xW) (ρ : Nat → Nat) (as : List Value) (h : xH) : Array Value → State → Prop := va_Pc (as.map (xv ρ)) (fun U => xEnv w U U.heap ∧ xP w ρ h U.heap)
/-- the method y, called with as in the heap h, ends as Q says: it returns a value (.inl) or throws (.inr) -/
def CT (w : xW) (y : MethodName) (cc : ByteArray) (nL : Nat) (ret : Option FieldType) (hh : List (Nat × Nat × Nat × Nat)) (al : Bool) (d mc ms : Nat) (as : List Value) (h : xH) (Q : xO → xH → Prop) : Prop :=
  xcw y cc nL ret hh ∈ lw_all ∧ Cond.initialized y.cls ∈ lw_all ∧ ∀ ρ, vx_Met (xl w) y (xcw y cc nL ret hh :: lw_all) (xroom d mc ms) (xPc w ρ as h)
    (xQc (w, (y.cls, nL, ret, hh, y.name == "<init>"), (al, d, mc, ms), Q, h, ρ)) (xXC (w, (y.cls, nL, ret, hh, y.name == "<init>"), (al, d, mc, ms), Q, h, ρ)) mc ms (xA w)
theorem CT.mono {w : xW} {y : MethodName} {cc : ByteArray} {nL : Nat} {ret : Option FieldType} {hh : List (Nat × Nat × Nat × Nat)} {al : Bool} {d mc ms : Nat} {as : List Value} {h : xH} {Q Q2 : xO → xH → Prop} (C : CT w y cc nL ret hh al d mc ms as h Q) (q : ∀ o h', Q o h' → Q2 o h') : CT w y cc nL ret hh al d mc ms as h Q2 := by
  refine ⟨C.1, C.2.1, fun ρ p e ha hf hc s m args below hfr happ hp hk => ?_⟩
  obtain ⟨n, o, h1, h2, h3, h4⟩ := C.2.2 ρ p e ha hf hc s m args below hfr happ hp hk
  refine ⟨n, o, h1, h2, h3, ?_⟩
  rcases h4 with ⟨⟨⟨v, ρ', h', g1, g2, g3, g4⟩, g5⟩, L⟩ | ⟨z, e1, E, ce, L, ⟨⟨nm, ρ', h', g2, g3, g4, g6⟩, g5⟩, L2⟩
  · exact Or.inl ⟨⟨⟨v, ρ', h', g1, q _ _ g2, g3, g4⟩, g5⟩, L⟩
  · exact Or.inr ⟨z, e1, E, ce, L, ⟨⟨nm, ρ', h', q _ _ g2, g3, g4, g6⟩, g5⟩, L2⟩
def xen : List Value → List (Option Value)
  | [] => []
  | v :: r => if v.category = 2 then some v :: none :: xen r else some v :: xen r
def xent (n : Nat) (as : List Value) : List (Option Value) := xen as ++ List.replicate (n - (xen as).length) none
theorem xen_args {ρ : Nat → Nat} : ∀ (as : List Value) (i : Nat) (q : Nat × Value), q ∈ xlv ρ i (xen as) → q ∈ lv_args i (as.map (xv ρ))
  | [], i, q, hq => by simp [xen, xlv] at hq
  | v :: r, i, q, hq => by
    rw [List.map_cons, lv_args, xv_cat]
    by_cases hc : v.category = 2
    · rw [xen, if_pos hc, xlv, List.mem_cons] at hq
      rw [if_pos hc]
      rcases hq with e | hq
      · rw [e]; exact List.mem_cons_self
      · rw [xlv] at hq
        exact List.mem_cons_of_mem _ (xen_args r _ q hq)
    · rw [xen, if_neg hc, xlv, List.mem_cons] at hq
      rw [if_neg hc]
      rcases hq with e | hq
      · rw [e]; exact List.mem_cons_self
      · exact List.mem_cons_of_mem _ (xen_args r _ q hq)
theorem xlv_none {ρ : Nat → Nat} : ∀ (n i : Nat), xlv ρ i (List.replicate n none) = []
  | 0, i => rfl
  | n + 1, i => by rw [List.replicate_succ, xlv, xlv_none n]
theorem xlv_app {ρ : Nat → Nat} : ∀ (a b : List (Option Value)) (i : Nat) (q : Nat × Value), q ∈ xlv ρ i (a ++ b) → q ∈ xlv ρ i a ∨ ∃ j, q ∈ xlv ρ j b
  | [], b, i, q, hq => Or.inr ⟨i, hq⟩
  | none :: a, b, i, q, hq => xlv_app a b (i + 1) q hq
  | some v :: a, b, i, q, hq => by
    rw [List.cons_append, xlv, List.mem_cons] at hq
    rcases hq with e | hq
    · exact Or.inl (by rw [xlv, List.mem_cons]; exact Or.inl e)
    · rcases xlv_app a b (i + 1) q hq with h1 | h1
      · exact Or.inl (by rw [xlv, List.mem_cons]; exact Or.inr h1)
      · exact Or.inr h1
theorem xsl_len {ρ : Nat → Nat} : ∀ as : List Value, (lg_sl (as.map (xv ρ))).length = (xen as).length
  | [] => rfl
  | v :: r => by
    have ih := xsl_len (ρ := ρ) r
    rw [List.map_cons, xen]
    unfold lg_sl at ih ⊢
    rw [List.flatMap_cons, List.length_append, ih]
    by_cases hc : v.category = 2
    · rw [if_pos hc]
      cases v <;> first | (simp [Value.category] at hc; done) | (simp [xv, Value.category]; omega)
    · rw [if_neg hc]
      cases v <;> first | (simp [Value.category] at hc; done) | (simp [xv, Value.category]; omega)
theorem xlv_entry {ρ : Nat → Nat} {n : Nat} {as : List Value} (hn : (xen as).length ≤ n) : lv_has ((lg_sl (as.map (xv ρ)) ++ List.replicate (n - (lg_sl (as.map (xv ρ))).length) Slot.unset).toArray) n (xlv ρ 0 (xent n as)) := by
  have h1 := lv_entry (as.map (xv ρ)) (n := n) (by rw [xsl_len]; exact hn)
  refine ⟨h1.1, h1.2.1, fun q hq => h1.2.2 q ?_⟩
  rcases xlv_app _ _ 0 q hq with h2 | ⟨j, h2⟩
  · exact xen_args as 0 q h2
  · rw [xlv_none] at h2
    cases h2
/-- a method's proof: from its entry -/
theorem CT.of {w : xW} {y : MethodName} {cc : ByteArray} {nL : Nat} {ret : Option FieldType} {al : Bool} {d mc ms : Nat} {as : List Value} {h : xH} {Q : xO → xH → Prop} {ini : Bool} (hy : plainName y.cls = true) (hcw : Cond.code y cc nL ret ∈ lw_all) (hin : Cond.initialized y.cls ∈ lw_all) (hlen : (xen as).length ≤ nL) (hni : (y.name == "<init>") = ini)
    (body : ∀ Γ : xG, gw Γ = w → gown Γ = y.cls → gnL Γ = nL → gret Γ = ret → ghh Γ = [] → gini Γ = ini → gal Γ = al → gd Γ = d → gmc Γ = mc → gms Γ = ms → (∀ o h', Q o h' → gQ Γ o h') → AW Γ cc 0 0 0 (xent nL as) [] h) : CT w y cc nL ret [] al d mc ms as h Q := by
  refine ⟨hcw, hin, fun ρ => ?_⟩
  refine vx_ofW (cc := cc) (maxL := nL) (ret := ret) hy rfl ?_
  intro p e s m args below meth c s₁ B hml ht hv
  obtain ⟨rfl, hE, hP⟩ := hv
  have hts := atoms_spec (ws := xcw y cc nL ret [] :: lw_all) B.pre
  have hts : ∀ w ∈ lw_all, w.before _ s = true := fun w h => hts w (List.mem_cons_of_mem _ h)
  have b := body (w, (y.cls, nL, ret, [], y.name == "<init>"), (al, d, mc, ms), Q, h, ρ) rfl rfl rfl rfl rfl hni rfl rfl rfl rfl (fun _ _ q => q)
  rw [lg_entry_eq]
  refine b p e s m _ below meth c ρ s.heap [] _ ⟨B.exec, B.bytes, hml, B.returns, B.notSynchronized, findClass_of_methodNamed B.named, hts, hE, ?_, ?_⟩ ⟨fun _ _ => rfl, fun _ q => q, fun _ => rfl⟩ hP va_S.rf (xlv_entry hlen)
  · show c.exceptionTable.toList = []
    cases hq : c.exceptionTable.toList with
    | nil => rfl
    | cons x r => exact absurd (ht x (by rw [hq]; exact List.mem_cons_self)) (fun h => h)
  · intro q
    have q : (y.name == "<init>") = true := q
    rw [(name_of_methodNamed B.named B.method).1]
    exact eq_of_beq q
/-- .. of a method with handlers -/
theorem CT.ofH {w : xW} {y : MethodName} {cc : ByteArray} {nL : Nat} {ret : Option FieldType} {hh : List (Nat × Nat × Nat × Nat)} {al : Bool} {d mc ms : Nat} {as : List Value} {h : xH} {Q : xO → xH → Prop} {ini : Bool} (hy : plainName y.cls = true) (hne : hh.isEmpty = false) (hcw : Cond.codeWith y cc nL ret hh ∈ lw_all) (hin : Cond.initialized y.cls ∈ lw_all) (hlen : (xen as).length ≤ nL) (hni : (y.name == "<init>") = ini)
    (body : ∀ Γ : xG, gw Γ = w → gown Γ = y.cls → gnL Γ = nL → gret Γ = ret → ghh Γ = hh → gini Γ = ini → gal Γ = al → gd Γ = d → gmc Γ = mc → gms Γ = ms → (∀ o h', Q o h' → gQ Γ o h') → AW Γ cc 0 0 0 (xent nL as) [] h) : CT w y cc nL ret hh al d mc ms as h Q := by
  have hx : xcw y cc nL ret hh = Cond.codeWith y cc nL ret hh := by unfold xcw; rw [hne]; rfl
  refine ⟨hx ▸ hcw, hin, fun ρ => ?_⟩
  refine vx_ofWH (cc := cc) (maxL := nL) (ret := ret) (hh := hh) hy (by rw [hx]) ?_
  intro p e s m args below meth c s₁ B hml hv
  obtain ⟨rfl, hE, hP⟩ := hv
  have hts := atoms_spec (ws := xcw y cc nL ret hh :: lw_all) B.pre
  have htb := vx_table B (x := y) (y := y) (bytes := cc) (maxL' := nL) (ret' := ret) (hh := hh) (hts _ (by rw [hx]; exact List.mem_cons_self))
  have hts : ∀ w ∈ lw_all, w.before _ s = true := fun w h => hts w (List.mem_cons_of_mem _ h)
  have b := body (w, (y.cls, nL, ret, hh, y.name == "<init>"), (al, d, mc, ms), Q, h, ρ) rfl rfl rfl rfl rfl hni rfl rfl rfl rfl (fun _ _ q => q)
  rw [lg_entry_eq]
  refine b p e s m _ below meth c ρ s.heap [] _ ⟨B.exec, B.bytes, hml, B.returns, B.notSynchronized, findClass_of_methodNamed B.named, hts, hE, htb, ?_⟩ ⟨fun _ _ => rfl, fun _ q => q, fun _ => rfl⟩ hP va_S.rf (xlv_entry hlen)
  intro q
  have q : (y.name == "<init>") = true := q
  rw [(name_of_methodNamed B.named B.method).1]
  exact eq_of_beq q
/-- a call by the instruction i in code of the class own comes to the method y; rc: the class that the receiver is of, if it's asked -/
def xLk (i : Instr) (rc : Option Nat) (own : String) (y : MethodName) (n : Nat) : Prop :=
  ∀ {p : Program} {l : Launch} {e : Env} {R : Room} {s : State} {m : MethodId} {args : Array Value} {below : List Frame} {meth : Method} {c : Code} {T : State} {locs : List Loc} {cells slots : Nat},
    Stand p l e R s m args below meth c T locs cells slots → p.tables.exec = Jvm.exec → s.vm.findClass own = some m.cls → (∀ w ∈ lw_all, w.before args s = true) → (∀ d ∈ xNw, va_Nw d s) →
    ∀ {Pre : Pt → Array Value → Prop} {Post : Pt → Array Value → Option Value → Pt → Prop} {PostX : Pt → Array Value → Addr → Pt → Prop}, vx_Back l R p e below s args y 3 8 Pre Post PostX →
    ∀ {g : JFrame}, g.method = m → g.locals.size = c.maxLocals → ∀ {As rest : List Value}, As.length = n →
    (∀ ci, rc = some ci → ∃ (b : Addr) (tl : List Value) (cellB : Cell) (r : vw_C), As = .ref b :: tl ∧ xCl[ci]? = some r ∧ T.heap[b]? = some cellB ∧ cellB.vm.isStatics = false ∧ s.vm.findClass r.1 = some cellB.cls) →
    g.stack = As.reverse ++ rest → 2 * g.monitorRoom + (rest.map fun v => v.category).sum ≤ 8 → decode c.code g.pc = .ok (i, 3) →
    (∀ vm₁, s.WarmedH vm₁ → Pre ⟨T.setVm vm₁, locs, cells, slots⟩ As.toArray) →
    (∃ (v : Option Value) (vm₁ : Vm) (B : Pt), s.WarmedH vm₁ ∧ Stand p l e R s m args below meth c B.U B.locs B.cells B.slots ∧ Post ⟨T.setVm vm₁, locs, cells, slots⟩ As.toArray v B ∧
      ∀ target, Steps p.tables e below (B.U.setTop { g with pc := g.pc + 3, stack := v.toList ++ rest }) target → Steps p.tables e below (T.setTop g) target) ∨
    (∃ (q : Addr) (vm₁ : Vm) (B : Pt), s.WarmedH vm₁ ∧ Stand p l e R s m args below meth c B.U B.locs B.cells B.slots ∧ PostX ⟨T.setVm vm₁, locs, cells, slots⟩ As.toArray q B ∧
      Steps p.tables e below (T.setTop g) ((B.U.setTop { g with stack := rest }).pushFrame (.throwing q)))
theorem CT.bk {w : xW} {y : MethodName} {cc : ByteArray} {nL : Nat} {ret : Option FieldType} {hh : List (Nat × Nat × Nat × Nat)} {al : Bool} {d mc ms : Nat} {as : List Value} {h : xH} {Q : xO → xH → Prop} (M : CT w y cc nL ret hh al d mc ms as h Q) (ρ : Nat → Nat) {R : Room} {p : Program} {e : Env} {below : List Frame} {s : State} {args : Array Value} (hts : ∀ w ∈ lw_all, w.before args s = true) (hf : d + 1 ≤ R.frames) (hl : 8 + (nL + 11) + (64 * d + 20000) ≤ R.locals) :
    vx_Back (xl w) R p e below s args y 3 8 (PreOf R mc ms (xPc w ρ as h)) (PostOf (xQc (w, (y.cls, nL, ret, hh, y.name == "<init>"), (al, d, mc, ms), Q, h, ρ)) mc ms (xA w)) (vx_Post (xXC (w, (y.cls, nL, ret, hh, y.name == "<init>"), (al, d, mc, ms), Q, h, ρ)) mc ms (xA w)) := by
  have hbl : FrameBlind (xPc w ρ as h) := fun a U g mk q => by
    obtain ⟨q0, q1, q2⟩ := q
    have q3 : xEnv w (U.calling g mk a) U.heap := xEnv.same (u := U) rfl q1
    exact ⟨q0, q3, q2⟩
  have hws := pay_in (ws := xcw y cc nL ret hh :: lw_all) hts (fun w' hw' => by
    rcases List.mem_cons.mp hw' with e1 | e1
    · rw [e1]; exact lw_self _ M.1
    · exact lw_self _ e1)
  have hini := pay_in (ws := [Cond.initialized y.cls]) hts (fun w' hw' => by rw [List.mem_singleton.mp hw']; exact lw_self _ M.2.1)
  by_cases hh0 : hh.isEmpty = true
  · have hx : xcw y cc nL ret hh = Cond.code y cc nL ret := by unfold xcw; rw [hh0]; rfl
    exact vx_back (bytes := cc) (maxL := nL) (ret := ret) (M.2.2 ρ) hbl rfl rfl hf hl hws (by rw [hx]; exact List.mem_cons_self) (fun a' U hW => hini _ List.mem_cons_self a' U hW)
  · have hx : xcw y cc nL ret hh = Cond.codeWith y cc nL ret hh := by unfold xcw; rw [if_neg hh0]
    exact vx_backW (bytes := cc) (maxL := nL) (ret := ret) (hh := hh) (M.2.2 ρ) hbl rfl rfl hf hl hws (by rw [hx]; exact List.mem_cons_self) (fun a' U hW => hini _ List.mem_cons_self a' U hW)
section XC
variable {Γ : xG} {cc : ByteArray} {kc ks pc : Nat} {l : List (Option Value)} {st : List Value} {h : xH}
theorem x_call {i : Instr} {rc : Option Nat} {own : String} {y : MethodName} {cc' : ByteArray} {nL' : Nat} {ret' : Option FieldType} {hh' : List (Nat × Nat × Nat × Nat)} {al' : Bool} {d' mc' ms' n : Nat} {As rest : List Value} {Q' : xO → xH → Prop}
    (lk : xLk i rc own y n) (ct : CT (gw Γ) y cc' nL' ret' hh' al' d' mc' ms' As h Q') (ho : gown Γ = own) (d : decode cc pc = .ok (i, 3)) (hn : As.length = n) (hst : st = As.reverse ++ rest)
    (hrc : ∀ ci, rc = some ci → ∃ b tl fs, As = .ref b :: tl ∧ h b = some (.inr (ci, fs))) (hW : (rest.map fun v => v.category).sum ≤ 8) (hd : d' + 1 ≤ gd Γ) (hnL : nL' ≤ 40) (hc : kc + mc' ≤ gmc Γ) (hs : ks + ms' ≤ gms Γ)
    (hal : al' = true → gal Γ = true ∧ (∀ v ∈ rest, xok h v) ∧ ∀ v, some v ∈ l → xok h v)
    (kk : ∀ v h', Q' (.inl v) h' → AW Γ cc (kc + mc') (ks + ms') (pc + 3) l (v.toList ++ rest) h') (kx : ∀ E nm h', Q' (.inr (E, nm)) h' → AX Γ cc (kc + mc') (ks + ms') pc l h' E nm) : AW Γ cc kc ks pc l st h := by
  intro p e s m args below meth c ρ H locs ls C R P S L T hT X
  have hE : xEnv (gw Γ) s H := C.2.2.2.2.2.2.2.1.kept S.1 S.2.1
  have hK := ct.bk ρ (R := xroom (gd Γ) (gmc Γ) (gms Γ)) (p := p) (e := e) (below := below) C.2.2.2.2.2.2.1 hd (by show 8 + (nL' + 11) + (64 * d' + 20000) ≤ 64 * gd Γ + 20000; omega)
  have hre : ∀ (ρ' : Nat → Nat) (h' : xH), xRel (gw Γ, (y.cls, nL', ret', hh', y.name == "<init>"), (al', d', mc', ms'), Q', h, ρ) ρ' h' → xRel Γ ρ' h' ∧ rest.map (xv ρ') = rest.map (xv ρ) ∧ xlv ρ' 0 l = xlv ρ 0 l := by
    intro ρ' h' ⟨g1, g2, g3⟩
    have g1 : ∀ n, h n ≠ none ∨ xpin n → ρ' n = ρ n := g1
    have g2 : ∀ n, h n ≠ none → h' n ≠ none := g2
    have g3 : al' = false → ρ' = ρ := g3
    refine ⟨⟨fun n hn => ?_, fun n hn => g2 n (R.2.1 n hn), fun q => ?_⟩, ?_⟩
    · rw [g1 n (hn.elim (fun q => Or.inl (R.2.1 n q)) Or.inr)]
      exact R.1 n hn
    · cases al' with
      | false => rw [g3 rfl]; exact R.2.2 q
      | true => rw [(hal rfl).1] at q; cases q
    · cases al' with
      | false => rw [g3 rfl]; exact ⟨rfl, rfl⟩
      | true => exact ⟨xvs_eq g1 (hal rfl).2.1, xlv_re g1 l 0 (hal rfl).2.2⟩
  have hkp : ∀ {st₀ t T' : State} {L9 : List Loc}, st₀.heap = H → T'.heap = t.heap → (∀ q ∈ L9, xA (gw Γ) q.base) → va_F (xA (gw Γ)) st₀ t → va_S (xA (gw Γ)) s.heap T'.heap (locs ++ L9) := by
    intro st₀ t T' L9 h0 e1 hL hF
    obtain ⟨hz, hk⟩ := hF
    rw [h0] at hz hk
    exact ⟨Nat.le_trans S.1 (by rw [e1]; exact hz), fun q h1 h2 => by rw [e1, hk q (Nat.lt_of_lt_of_le h1 S.1) h2]; exact S.2.1 q h1 h2, fun q hq => by
      rcases List.mem_append.mp hq with h | h
      · exact S.2.2 q h
      · exact hL q h⟩
  have main := lk X C.1 (ho ▸ C.2.2.2.2.2.1) C.2.2.2.2.2.2.1 C.N hK (g := F0 m pc ls (st.map (xv ρ))) rfl (by rw [C.2.2.1]; exact L.1) (As := As.map (xv ρ)) (rest := rest.map (xv ρ)) (by rw [List.length_map]; exact hn) (fun ci hci => by
      obtain ⟨b, tl, fs, e1, e2⟩ := hrc ci hci
      obtain ⟨r, g0, cellV, g1, g2, g3, -⟩ := P.at e2
      exact ⟨ρ b, tl.map (xv ρ), cellV, r, by rw [e1]; rfl, g0, by rw [hT]; exact g1, by rw [g3]; rfl, by rw [g2]; exact (C.K.1 ci r g0).2.1⟩)
    (by show st.map (xv ρ) = _; rw [hst, List.map_append, List.map_reverse]) (by show 2 * 0 + ((rest.map (xv ρ)).map fun v => v.category).sum ≤ 8; rw [xsum]; omega) (by rw [C.2.1]; exact d)
    (fun vm₁ hW₁ => ⟨hc, hs, rfl, xEnv.warm (U := T.setVm vm₁) hW₁ (by show xEnv (gw Γ) s T.heap; rw [hT]; exact hE), by show xP (gw Γ) ρ h T.heap; rw [hT]; exact P⟩)
  rcases main with ⟨v, vm₁, ⟨U', l2, c2, s2⟩, hW₁, X', ⟨g', mk, t, L9, e1, e2, hq, h1, hL, h2, h3⟩, stp⟩ | ⟨q, vm₁, ⟨U', l2, c2, s2⟩, hW₁, X', ⟨g', mk, t, L9, E, ce, e1, e2, hq, hce, hcv, hcl, h1, hL, h2, h3⟩, stp⟩
  · dsimp only [Pt.U, Pt.locs, Pt.cells, Pt.slots] at X' e1 e2 h1 h2 h3 stp
    subst h1; subst h2; subst h3
    obtain ⟨⟨v', ρ', h', hv, hQ, hR, hP'⟩, hF⟩ := hq
    cases hv
    obtain ⟨r1, r2, r3⟩ := hre ρ' h' hR
    have k1 := kk v' h' hQ p e s m args below meth c ρ' U'.heap (locs ++ L9) ls C r1 (by rw [e1]; exact hP') (hkp (st₀ := (T.setVm vm₁).calling g' mk (As.map (xv ρ)).toArray) hT e1 hL hF) (by rw [r3]; exact L) U' rfl X'
    obtain ⟨t2, a1, b1⟩ := k1
    refine ⟨t2, stp t2 ?_, b1⟩
    have e3 : (v'.toList ++ rest).map (xv ρ') = (v'.map (xv ρ')).toList ++ rest.map (xv ρ) := by
      rw [List.map_append, r2]
      cases v' <;> rfl
    rw [e3] at a1
    exact a1
  · dsimp only [Pt.U, Pt.locs, Pt.cells, Pt.slots] at X' e1 e2 h1 h2 h3 stp hcl
    subst h1; subst h2; subst h3
    obtain ⟨⟨nm, ρ', h', hQ, hR, hP', hnm⟩, hF⟩ := hq
    obtain ⟨r1, r2, r3⟩ := hre ρ' h' hR
    have k1 := kx E nm h' hQ p e s m args below meth c ρ' U'.heap (locs ++ L9) ls (rest.map (xv ρ)) q ce C r1 (by rw [e1]; exact hP') (hkp (st₀ := (T.setVm vm₁).calling g' mk (As.map (xv ρ)).toArray) hT e1 hL hF) (by rw [r3]; exact L) (by rw [e1]; exact hce) hcv (vx_cls hW₁ hcl) hnm U' rfl X'
    obtain ⟨t2, a1, b1⟩ := k1
    exact ⟨t2, stp.trans a1, b1⟩
end XC
