/-! ===== heaps by names ===== -/
set_option maxRecDepth 100000
def xup (h : xH) (n : Nat) (e : xE) : xH := fun m => if m = n then some e else h m
theorem xup_self {h : xH} {n : Nat} {e : xE} : xup h n e n = some e := if_pos rfl
theorem xup_ne {h : xH} {n m : Nat} {e : xE} (q : m ≠ n) : xup h n e m = h m := if_neg q
theorem xup_some {h : xH} {n m : Nat} {e : xE} (q : h m ≠ none) : xup h n e m ≠ none := by
  unfold xup
  split
  · exact Option.some_ne_none _
  · exact q
theorem xok_up {h : xH} {n : Nat} {e : xE} {v : Value} (q : xok h v) : xok (xup h n e) v := by
  cases v with
  | ref a => exact q.elim (fun q => Or.inl (xup_some q)) (fun q => Or.inr q)
  | _ => trivial
theorem xcl_up {h : xH} {n : Nat} {e e2 : xE} (q : xcl h e2) : xcl (xup h n e) e2 := by
  obtain ⟨k, m, f | f | f | f | f⟩ | ⟨ci, fs⟩ := e2 <;> first | exact fun i y hy => xok_up (q i y hy) | exact fun v hv => xok_up (q v hv) | trivial
/-- the address a name has had stays, where it is used -/
theorem xv_eq {ρ ρ' : Nat → Nat} {h : xH} (hr : ∀ n, h n ≠ none ∨ xpin n → ρ' n = ρ n) {v : Value} (q : xok h v) : xv ρ' v = xv ρ v := by
  cases v <;> first | rfl | exact congrArg Value.ref (hr _ q)
theorem xvs_eq {ρ ρ' : Nat → Nat} {h : xH} (hr : ∀ n, h n ≠ none ∨ xpin n → ρ' n = ρ n) {st : List Value} (q : ∀ v ∈ st, xok h v) : st.map (xv ρ') = st.map (xv ρ) := List.map_congr_left fun v hv => xv_eq hr (q v hv)
theorem xe_eq {w : xW} {ρ ρ' : Nat → Nat} {h : xH} (hr : ∀ n, h n ≠ none ∨ xpin n → ρ' n = ρ n) {e : xE} (q : xcl h e) : xe w ρ' e = xe w ρ e := by
  obtain ⟨k, m, f | f | f | f | f⟩ | ⟨ci, fs⟩ := e
  · rfl
  · rfl
  · rfl
  · rfl
  · show Sum.inl (xT w k, m, Sum.inr (Sum.inr (Sum.inr (Sum.inr fun i => (f i).map ρ')))) = Sum.inl (xT w k, m, Sum.inr (Sum.inr (Sum.inr (Sum.inr fun i => (f i).map ρ))))
    have hf : (fun i => (f i).map ρ') = fun i => (f i).map ρ := by
      funext i
      cases hi : f i with
      | none => rfl
      | some y => exact congrArg some (hr y (q i y hi))
    rw [hf]
  · show Sum.inr (ci, fs.map (xv ρ')) = Sum.inr (ci, fs.map (xv ρ))
    rw [xvs_eq hr q]
theorem xv_cat {ρ : Nat → Nat} {v : Value} : (xv ρ v).category = v.category := by cases v <;> rfl
theorem xsum {ρ : Nat → Nat} {st : List Value} : ((st.map (xv ρ)).map fun v => v.category).sum = (st.map fun v => v.category).sum := by
  rw [List.map_map]
  exact congrArg List.sum (List.map_congr_left fun v _ => xv_cat)
def xra (ρ : Nat → Nat) (n a : Nat) : Nat → Nat := fun m => if m = n then a else ρ m
theorem xra_self {ρ : Nat → Nat} {n a : Nat} : xra ρ n a n = a := if_pos rfl
theorem xra_ne {ρ : Nat → Nat} {n a m : Nat} (q : m ≠ n) : xra ρ n a m = ρ m := if_neg q
section XP
variable {w : xW} {ρ : Nat → Nat} {h : xH} {H H1 : Heap} {n : Nat} {e : xE}
theorem xP.at (P : xP w ρ h H) (q : h n = some e) : va_at (xD w) xCl (ρ n, xe w ρ e) H := (P.1 n e q).1
theorem xP.one (P : xP w ρ h H) (q : h n = some e) : va_P (xD w) xCl [(ρ n, xe w ρ e)] H := by
  intro k x hx
  match k, hx with
  | 0, hx => cases hx; exact P.at q
theorem xP.lt (P : xP w ρ h H) (q : h n = some e) : ρ n < H.size := va_at.lt (P.at q)
theorem xP.put (P : xP w ρ h H) (q : h n = some e) {e' : xE} (g : va_at (xD w) xCl (ρ n, xe w ρ e') H1) (ho : ∀ a : Nat, a ≠ ρ n → H1[a]? = H[a]?) (hc : xcl h e') : xP w ρ (xup h n e') H1 := by
  have hn : h n ≠ none := by rw [q]; exact Option.some_ne_none _
  have back : ∀ m, xup h n e' m ≠ none → h m ≠ none := by
    intro m hm
    by_cases e1 : m = n
    · rw [e1]; exact hn
    · rwa [xup_ne e1] at hm
  refine ⟨fun m e2 hm => ?_, fun a b ha hb => P.2.1 a b (back a ha) (back b hb), P.2.2⟩
  by_cases e1 : m = n
  · subst e1
    rw [xup_self] at hm
    cases hm
    exact ⟨g, (P.1 m e q).2.1, xcl_up hc⟩
  · rw [xup_ne e1] at hm
    obtain ⟨g1, g2, g3⟩ := P.1 m e2 hm
    refine ⟨g1.kept (ho _ fun e3 => e1 (P.2.1 m n (by rw [hm]; exact Option.some_ne_none _) hn e3)), g2, xcl_up g3⟩
/-- a new cell under a name that is free -/
theorem xP.new (P : xP w ρ h H) (q : h n = none) (hp : ¬ xpin n) {a : Nat} {e' : xE} (hb : xB w ≤ a) (ha : H.size ≤ a) (hc : xcl h e') (g : va_at (xD w) xCl (a, xe w ρ e') H1) (ho : ∀ a : Nat, a < H.size → H1[a]? = H[a]?) :
    xP w (xra ρ n a) (xup h n e') H1 ∧ ∀ m, h m ≠ none ∨ xpin m → xra ρ n a m = ρ m := by
  have hr : ∀ m, h m ≠ none ∨ xpin m → xra ρ n a m = ρ m := by
    intro m hm
    refine xra_ne fun e1 => ?_
    subst e1
    rcases hm with hm | hm
    · exact hm q
    · exact hp hm
  refine ⟨⟨fun m e2 hm => ?_, fun x y hx hy hxy => ?_, fun k hk => ?_⟩, hr⟩
  · by_cases e1 : m = n
    · subst e1
      rw [xup_self] at hm
      cases hm
      refine ⟨?_, ?_, xcl_up hc⟩
      · rw [xe_eq hr hc, xra_self]; exact g
      · rw [xra_self]; exact hb
    · rw [xup_ne e1] at hm
      obtain ⟨g1, g2, g3⟩ := P.1 m e2 hm
      refine ⟨?_, ?_, xcl_up g3⟩
      · rw [xe_eq hr g3, xra_ne e1]; exact g1.kept (ho _ (P.lt hm))
      · rw [xra_ne e1]; exact g2
  · by_cases e1 : x = n <;> by_cases e2 : y = n
    · rw [e1, e2]
    · rw [xup_ne e2] at hy
      obtain ⟨ey, hey⟩ := Option.ne_none_iff_exists'.mp hy
      have := P.lt hey
      rw [e1, xra_self, xra_ne e2] at hxy
      omega
    · rw [xup_ne e1] at hx
      obtain ⟨ex, hex⟩ := Option.ne_none_iff_exists'.mp hx
      have := P.lt hex
      rw [e2, xra_self, xra_ne e1] at hxy
      omega
    · rw [xup_ne e1] at hx
      rw [xup_ne e2] at hy
      rw [xra_ne e1, xra_ne e2] at hxy
      exact P.2.1 x y hx hy hxy
  · have h1 := hr (64 + k) (Or.inr (show (64 + k) / 32 = 2 by omega))
    have h2 := hr (72 + k) (Or.inr (show (72 + k) / 32 = 2 by omega))
    exact ⟨h1.trans (P.2.2 k hk).1, h2.trans (P.2.2 k hk).2⟩
/-- a heap in which nothing of ours has changed -/
theorem xP.kept (P : xP w ρ h H) (ho : ∀ a : Nat, a < H.size → H1[a]? = H[a]?) : xP w ρ h H1 :=
  ⟨fun m e2 hm => by obtain ⟨g1, g2, g3⟩ := P.1 m e2 hm; exact ⟨g1.kept (ho _ (P.lt hm)), g2, g3⟩, P.2.1, P.2.2⟩
end XP
/-! ===== a point of a method ===== -/
abbrev xO : Type := Option Value ⊕ (String × Option Nat)
/-- a method's frame: world; own class, locals, answer, handlers, whether it's a constructor; whether it makes cells, its depth, cells, slots; its end; the heap and addresses at its start -/
abbrev xG : Type := xW × (String × Nat × Option FieldType × List (Nat × Nat × Nat × Nat) × Bool) × (Bool × Nat × Nat × Nat) × (xO → xH → Prop) × xH × (Nat → Nat)
abbrev gw (Γ : xG) : xW := Γ.1
abbrev gown (Γ : xG) : String := Γ.2.1.1
abbrev gnL (Γ : xG) : Nat := Γ.2.1.2.1
abbrev gret (Γ : xG) : Option FieldType := Γ.2.1.2.2.1
abbrev ghh (Γ : xG) : List (Nat × Nat × Nat × Nat) := Γ.2.1.2.2.2.1
abbrev gini (Γ : xG) : Bool := Γ.2.1.2.2.2.2
abbrev gal (Γ : xG) : Bool := Γ.2.2.1.1
abbrev gd (Γ : xG) : Nat := Γ.2.2.1.2.1
abbrev gmc (Γ : xG) : Nat := Γ.2.2.1.2.2.1
abbrev gms (Γ : xG) : Nat := Γ.2.2.1.2.2.2
abbrev gQ (Γ : xG) : xO → xH → Prop := Γ.2.2.2.1
abbrev gh0 (Γ : xG) : xH := Γ.2.2.2.2.1
abbrev gρ0 (Γ : xG) : Nat → Nat := Γ.2.2.2.2.2
def xroom (d mc ms : Nat) : Room := { frames := d, cells := mc, slots := ms, locals := 64 * d + 20000 }
/-- the names since the start -/
def xRel (Γ : xG) (ρ : Nat → Nat) (h : xH) : Prop := (∀ n, gh0 Γ n ≠ none ∨ xpin n → ρ n = gρ0 Γ n) ∧ (∀ n, gh0 Γ n ≠ none → h n ≠ none) ∧ (gal Γ = false → ρ = gρ0 Γ)
def xQc (Γ : xG) : Array Value → State → Outcome → State → Prop := fun _ st o t => (∃ v ρ' h', o = .returned (v.map (xv ρ')) ∧ gQ Γ (.inl v) h' ∧ xRel Γ ρ' h' ∧ xP (gw Γ) ρ' h' t.heap) ∧ va_F (xA (gw Γ)) st t
def xXC (Γ : xG) : String → Addr → State → State → Prop := fun E q st t => (∃ n ρ' h', gQ Γ (.inr (E, n)) h' ∧ xRel Γ ρ' h' ∧ xP (gw Γ) ρ' h' t.heap ∧ ∀ k, n = some k → q = ρ' k) ∧ va_F (xA (gw Γ)) st t
def xCtx (Γ : xG) (cc : ByteArray) (p : Program) (s : State) (m : MethodId) (args : Array Value) (meth : Method) (c : Code) : Prop :=
  p.tables.exec = Jvm.exec ∧ c.code = cc ∧ c.maxLocals = gnL Γ ∧ meth.sig.returnType = gret Γ ∧ meth.locks = false ∧ s.vm.findClass (gown Γ) = some m.cls ∧ (∀ w ∈ lw_all, w.before args s = true) ∧ xEnv (gw Γ) s s.heap ∧ c.exceptionTable.toList = tableOf (ghh Γ) ∧ (gini Γ = true → meth.name = "<init>")
def xlv (ρ : Nat → Nat) : Nat → List (Option Value) → List (Nat × Value)
  | _, [] => []
  | i, none :: r => xlv ρ (i + 1) r
  | i, some v :: r => (i, xv ρ v) :: xlv ρ (i + 1) r
def AW (Γ : xG) (cc : ByteArray) (kc ks pc : Nat) (l : List (Option Value)) (st : List Value) (h : xH) : Prop :=
  ∀ (p : Program) (e : Env) (s : State) (m : MethodId) (args : Array Value) (below : List Frame) (meth : Method) (c : Code) (ρ : Nat → Nat) (H : Heap) (locs : List Loc) (ls : Array Slot),
    xCtx Γ cc p s m args meth c → xRel Γ ρ h → xP (gw Γ) ρ h H → va_S (xA (gw Γ)) s.heap H locs → lv_has ls (gnL Γ) (xlv ρ 0 l) →
    W p (xl (gw Γ)) e (xroom (gd Γ) (gmc Γ) (gms Γ)) s m args below meth c H locs kc ks (vx_MQ below (xQc Γ) (xXC Γ) args s (gmc Γ) (gms Γ) (xA (gw Γ))) (F0 m pc ls (st.map (xv ρ)))
/-- the same with something thrown over the frame: of class E; its name, if it has one -/
def AX (Γ : xG) (cc : ByteArray) (kc ks pc : Nat) (l : List (Option Value)) (h : xH) (E : String) (nm : Option Nat) : Prop :=
  ∀ (p : Program) (e : Env) (s : State) (m : MethodId) (args : Array Value) (below : List Frame) (meth : Method) (c : Code) (ρ : Nat → Nat) (H : Heap) (locs : List Loc) (ls : Array Slot) (rest : List Value) (q : Addr) (ce : Cell),
    xCtx Γ cc p s m args meth c → xRel Γ ρ h → xP (gw Γ) ρ h H → va_S (xA (gw Γ)) s.heap H locs → lv_has ls (gnL Γ) (xlv ρ 0 l) → H[q]? = some ce → ce.vm = .none → s.vm.findClass E = some ce.cls → (∀ k, nm = some k → q = ρ k) →
    vx_W p (xl (gw Γ)) e (xroom (gd Γ) (gmc Γ) (gms Γ)) s m args below meth c H locs kc ks (vx_MQ below (xQc Γ) (xXC Γ) args s (gmc Γ) (gms Γ) (xA (gw Γ))) (F0 m pc ls rest) q
theorem xlv_mem {ρ : Nat → Nat} : ∀ (l : List (Option Value)) (i : Nat) (q : Nat × Value), q ∈ xlv ρ i l ↔ ∃ j v, l[j]? = some (some v) ∧ q = (i + j, xv ρ v)
  | [], i, q => by simp [xlv]
  | none :: r, i, q => by
    rw [xlv, xlv_mem r (i + 1) q]
    constructor
    · rintro ⟨j, v, h1, h2⟩
      exact ⟨j + 1, v, h1, by rw [h2]; congr 1; omega⟩
    · rintro ⟨j, v, h1, h2⟩
      cases j with
      | zero => simp at h1
      | succ j => exact ⟨j, v, h1, by rw [h2]; congr 1; omega⟩
  | some v0 :: r, i, q => by
    rw [xlv, List.mem_cons, xlv_mem r (i + 1) q]
    constructor
    · rintro (h0 | ⟨j, v, h1, h2⟩)
      · exact ⟨0, v0, rfl, h0⟩
      · exact ⟨j + 1, v, h1, by rw [h2]; congr 1; omega⟩
    · rintro ⟨j, v, h1, h2⟩
      cases j with
      | zero => cases h1; exact Or.inl h2
      | succ j => exact Or.inr ⟨j, v, h1, by rw [h2]; congr 1; omega⟩
theorem xlv_at {ρ : Nat → Nat} {ls : Array Slot} {nL : Nat} {l : List (Option Value)} (L : lv_has ls nL (xlv ρ 0 l)) {i : Nat} {v : Value} (hl : l[i]? = some (some v)) : ls[i]? = some (.val (xv ρ v)) :=
  L.2.2 (i, xv ρ v) ((xlv_mem l 0 _).mpr ⟨i, v, hl, by rw [Nat.zero_add]⟩)
theorem xlv_le {ρ : Nat → Nat} {ls : Array Slot} {nL : Nat} {l l' : List (Option Value)} (L : lv_has ls nL (xlv ρ 0 l)) (hl : ∀ (i : Nat) (v : Value), l'[i]? = some (some v) → l[i]? = some (some v)) : lv_has ls nL (xlv ρ 0 l') := by
  refine ⟨L.1, L.2.1, fun q hq => L.2.2 q ?_⟩
  obtain ⟨j, v, h1, h2⟩ := (xlv_mem l' 0 q).mp hq
  exact (xlv_mem l 0 q).mpr ⟨j, v, hl j v h1, h2⟩
theorem xlv_set1 {ρ : Nat → Nat} {ls : Array Slot} {nL i : Nat} {l : List (Option Value)} {v : Value} (hp : ∀ u, 0 < i → l[i - 1]? = some (some u) → u.category = 1) (L : lv_has ls nL ((i, xv ρ v) :: (xlv ρ 0 l).filter (fun q => !(q.1 == i) && !(q.1 + 1 == i && q.2.category == 2)))) : lv_has ls nL (xlv ρ 0 (l.set i (some v))) := by
  refine ⟨L.1, L.2.1, fun q hq => ?_⟩
  obtain ⟨j, u, h1, h2⟩ := (xlv_mem _ 0 q).mp hq
  rw [Nat.zero_add] at h2
  subst h2
  by_cases e : j = i
  · subst e
    have hj : j < (l.set j (some v)).length := (List.getElem?_eq_some_iff.mp h1).1
    rw [List.length_set] at hj
    rw [List.getElem?_set_self hj] at h1
    cases h1
    exact L.2.2 _ List.mem_cons_self
  · rw [List.getElem?_set_ne (fun e1 => e e1.symm)] at h1
    refine L.2.2 _ (List.mem_cons_of_mem _ (List.mem_filter.mpr ⟨(xlv_mem l 0 _).mpr ⟨j, u, h1, by rw [Nat.zero_add]⟩, ?_⟩))
    have e1 : (j == i) = false := by simpa using e
    by_cases e2 : j + 1 = i
    · have hu : u.category = 1 := hp u (by omega) (by rw [show i - 1 = j by omega]; exact h1)
      simp [e1, xv_cat, hu]
    · have e3 : (j + 1 == i) = false := by simpa using e2
      simp [e1, e3]
theorem xlv_set2 {ρ : Nat → Nat} {ls : Array Slot} {nL i : Nat} {l : List (Option Value)} {v : Value} (hp : ∀ u, 0 < i → l[i - 1]? = some (some u) → u.category = 1) (L : lv_has ls nL ((i, xv ρ v) :: (xlv ρ 0 l).filter (fun q => !(q.1 == i) && (!(q.1 == i + 1) && !(q.1 + 1 == i && q.2.category == 2))))) : lv_has ls nL (xlv ρ 0 ((l.set i (some v)).set (i + 1) none)) := by
  refine ⟨L.1, L.2.1, fun q hq => ?_⟩
  obtain ⟨j, u, h1, h2⟩ := (xlv_mem _ 0 q).mp hq
  rw [Nat.zero_add] at h2
  subst h2
  have e0 : j ≠ i + 1 := by
    intro e
    subst e
    have hj := (List.getElem?_eq_some_iff.mp h1).1
    rw [List.length_set] at hj
    rw [List.getElem?_set_self hj] at h1
    cases h1
  rw [List.getElem?_set_ne (fun e1 => e0 e1.symm)] at h1
  by_cases e : j = i
  · subst e
    have hj : j < (l.set j (some v)).length := (List.getElem?_eq_some_iff.mp h1).1
    rw [List.length_set] at hj
    rw [List.getElem?_set_self hj] at h1
    cases h1
    exact L.2.2 _ List.mem_cons_self
  · rw [List.getElem?_set_ne (fun e1 => e e1.symm)] at h1
    refine L.2.2 _ (List.mem_cons_of_mem _ (List.mem_filter.mpr ⟨(xlv_mem l 0 _).mpr ⟨j, u, h1, by rw [Nat.zero_add]⟩, ?_⟩))
    have e1 : (j == i) = false := by simpa using e
    have e4 : (j == i + 1) = false := by simpa using e0
    by_cases e2 : j + 1 = i
    · have hu : u.category = 1 := hp u (by omega) (by rw [show i - 1 = j by omega]; exact h1)
      simp [e1, e4, xv_cat, hu]
    · have e3 : (j + 1 == i) = false := by simpa using e2
      simp [e1, e3, e4]
/-- other addresses for names that the locals don't use -/
theorem xlv_re {ρ ρ' : Nat → Nat} {h : xH} (hr : ∀ n, h n ≠ none ∨ xpin n → ρ' n = ρ n) : ∀ (l : List (Option Value)) (i : Nat), (∀ v, some v ∈ l → xok h v) → xlv ρ' i l = xlv ρ i l
  | [], i, _ => rfl
  | none :: r, i, q => xlv_re hr r (i + 1) (fun v hv => q v (List.mem_cons_of_mem _ hv))
  | some v0 :: r, i, q => by
    rw [xlv, xlv, xv_eq hr (q v0 List.mem_cons_self), xlv_re hr r (i + 1) (fun v hv => q v (List.mem_cons_of_mem _ hv))]
