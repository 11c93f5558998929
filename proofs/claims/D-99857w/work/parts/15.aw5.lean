/-! ===== rows that make cells, store references, compare them, cast, throw and catch ===== -/
set_option maxRecDepth 100000
section XN
variable {Γ : xG} {cc : ByteArray} {kc ks pc : Nat} {l : List (Option Value)} {st : List Value} {h : xH}
theorem xtys_at {w : xW} {t : Nat} {ty : FieldType} (hT : xTy[t]? = some ty) : (xtys w)[t]? = some (xT w t, ty) := by
  match t, hT with
  | 0, hT => cases hT; rfl
  | 1, hT => cases hT; rfl
  | 2, hT => cases hT; rfl
  | 3, hT => cases hT; rfl
  | 4, hT => cases hT; rfl
  | 5, hT => cases hT; rfl
  | 6, hT => cases hT; rfl
  | 7, hT => cases hT; rfl
  | 8, hT => cases hT; rfl
  | 9, hT => cases hT; rfl
  | 10, hT => cases hT; rfl
  | t + 11, hT => cases hT
theorem xcl_in {h : xH} {t n : Nat} {f : Nat → Option Nat} {k y : Nat} (q : xcl h (.inl (t, n, .inr (.inr (.inr (.inr f)))))) (hy : xok h (.ref y)) : xcl h (.inl (t, n, .inr (.inr (.inr (.inr (va_up f k (some y))))))) := by
  intro i z hz
  by_cases e : i = k
  · simp only [va_up, if_pos e] at hz
    cases hz
    exact hy
  · simp only [va_up, if_neg e] at hz
    exact q i z hz
theorem x_aast {a k n t ci y : Nat} {r : vw_C} {vs : List Value} {f : Nat → Option Nat} {i : Int32} (hT : xTy[t]? = some (.object r.1)) (hr : xCl[ci]? = some r) (d : decode cc pc = .ok (.aastore, 1)) (hc : h a = some (.inl (t, n, .inr (.inr (.inr (.inr f)))))) (hy : h y = some (.inr (ci, vs))) (hi : i = nI k) (hk : k < n) (hn : n ≤ 1000000) (kk : AW Γ cc kc ks (pc + 1) l st (xup h a (.inl (t, n, .inr (.inr (.inr (.inr (va_up f k (some y))))))))) : AW Γ cc kc ks pc l (.ref y :: .int i :: .ref a :: st) h := by
  intro p e s m args below meth c ρ H locs ls C R P S L
  subst hi
  have hP2 := P.at hc
  obtain ⟨r', hr', cellV, g1, g2, g3, -⟩ := P.at hy
  have hcls := (C.K.1 ci r hr).2
  obtain ⟨kA, comp, k1, k2, k3, -⟩ := (C.K.2 t _ (xtys_at hT)).2
  have hcomp : comp = (xD (gw Γ)).1 ci := Option.some.inj (k3.symm.trans hcls.1)
  subst hcomp
  obtain ⟨kC, hkC, -⟩ := hcls.2
  refine W.aast C.1 C.2.1 hP2 (fun q h => by cases h) (fun h => by cases h) k1 k2 rfl hkC ⟨nI_pos (by omega), by show (nI k).toNatClampNeg < (arrV _ n _).slots.size; rw [arrV_size, nI_clamp (by omega)]; exact hk⟩ g1 (fun q h => by rw [g3] at h; cases h) (by rw [g2]; exact hkC) (by rw [g2]; exact va_assign hcls) rfl rfl d fun H1 g z oq => ?_
  rw [nI_clamp (by omega)] at g
  refine kk p e s m args below meth c ρ H1 _ ls C R.up (P.put hc ?_ oq (xcl_in (P.1 a _ hc).2.2 (Or.inl (by rw [hy]; exact Option.some_ne_none _)))) (S.put z oq (P.1 a _ hc).2.1) L
  show H1[ρ a]? = some (vp_cell (xT (gw Γ) t) (n, .inr (.inr (.inr (.inr (fun i => (va_up f k (some y) i).map ρ))))))
  rw [g]
  show some ((vp_cell (xT (gw Γ) t) (n, .inr (.inr (.inr (.inr (fun i => (f i).map ρ)))))).setSlot k (.ref (ρ y))) = _
  rw [vp_cell_q, vp_cell_q, arrV_store]
  congr 2
  funext q
  by_cases hq : q = k
  · subst hq
    simp [updV, va_up, va_rf]
  · simp [updV, va_up, hq]
theorem xRel.new {Γ : xG} {ρ : Nat → Nat} {h : xH} {n a : Nat} {e : xE} (R : xRel Γ ρ h) (hal : gal Γ = true) (hn : h n = none) (hp : ¬ xpin n) : xRel Γ (xra ρ n a) (xup h n e) := by
  refine ⟨fun m hm => ?_, fun m hm => xup_some (R.2.1 m hm), fun q => by rw [hal] at q; cases q⟩
  rw [xra_ne]
  · exact R.1 m hm
  · intro e1
    subst e1
    rcases hm with hm | hm
    · exact R.2.1 m hm hn
    · exact hp hm
theorem xS_new {A : Nat → Prop} {H0 H H1 : Heap} {locs : List Loc} (S : va_S A H0 H locs) (z : H.size ≤ H1.size) (o1 : ∀ q : Nat, q < H.size → H1[q]? = H[q]?) : va_S A H0 H1 locs := ⟨Nat.le_trans S.1 z, fun x h1 h2 => (o1 x (Nat.lt_of_lt_of_le h1 S.1)).trans (S.2.1 x h1 h2), S.2.2⟩
theorem xCtx.B {Γ : xG} {cc : ByteArray} {p : Program} {s : State} {m : MethodId} {args : Array Value} {meth : Method} {c : Code} (C : xCtx Γ cc p s m args meth c) : xB (gw Γ) ≤ s.heap.size := C.2.2.2.2.2.2.2.1.2.1
/-- 'new' of the class ci: what it asks of the tables -/
def xNew (own : String) (index ci : Nat) (N : Nat) (fs : List Value) : Prop :=
  ∃ (C : String) (T : u_T) (ty : Nat → FieldType), xCl[ci]? = some (C, T, N) ∧ (∀ w ∈ u_ws C T N, w ∈ lw_all) ∧ (∀ k, k < N → parseFieldDescriptor (T k).2.2.1 = some (ty k)) ∧ Cond.classLink own index C ∈ lw_all ∧ Cond.instantiable C N ∈ lw_all ∧ Cond.initialized C ∈ lw_all ∧ (∀ j, j < N → defaultValue (ty j) = vp_V fs j) ∧ ∀ v ∈ fs, ∀ n, v ≠ .ref n
theorem x_new {own : String} {index ci N : Nat} {fs : List Value} (nn : Nat) (G : xNew own index ci N fs) (ho : gown Γ = own) (hal : gal Γ = true) (d : decode cc pc = .ok (.new index, 3)) (hn : h nn = none) (hp : ¬ xpin nn) (hst : ∀ v ∈ st, xok h v) (hl : ∀ v, some v ∈ l → xok h v) (h1 : kc + 1 ≤ gmc Γ) (h2 : ks + N ≤ gms Γ) (kk : AW Γ cc (kc + 1) (ks + N) (pc + 3) l (.ref nn :: st) (xup h nn (.inr (ci, fs)))) : AW Γ cc kc ks pc l st h := by
  intro p e s m args below meth c ρ H locs ls C R P S L
  obtain ⟨C0, T, ty, hc, hin, hty, hcl, hinst, hini, hfs, hnr⟩ := G
  have hts := C.2.2.2.2.2.2.1
  have hKn := C.K.1 ci _ hc
  refine W.newcK C.1 C.2.1 (ho ▸ C.2.2.2.2.2.1) (hts _ hcl) (hts _ hinst) (hts _ hini) rfl d h1 h2 hKn.2.1 rfl fun H1 kC hkC e1 z1 o1 => ?_
  have hns : ∀ v ∈ fs, xok h v := fun v hv => by
    cases v with
    | ref n => exact absurd rfl (hnr _ hv n)
    | _ => trivial
  have hfm : fs.map (xv ρ) = fs := by
    have : fs.map (xv ρ) = fs.map id := List.map_congr_left fun v hv => by
      cases v with
      | ref n => exact absurd rfl (hnr _ hv n)
      | _ => rfl
    rw [this, List.map_id]
  obtain ⟨P1, hr⟩ := P.new (a := H.size) (e' := .inr (ci, fs)) (H1 := H1) hn hp (Nat.le_trans C.B S.1) (Nat.le_refl _) hns (by
    show va_at (xD (gw Γ)) xCl (H.size, .inr (ci, fs.map (xv ρ))) H1
    rw [hfm]
    exact ⟨_, hc, (u_born ty hts hin hKn hkC e1 hty).to hfs⟩) o1
  have k1 := kk p e s m args below meth c (xra ρ nn H.size) H1 locs ls C (R.new hal hn hp) P1 (xS_new S (by omega) o1) (by rw [xlv_re hr l 0 hl]; exact L)
  rw [List.map_cons, xvs_eq hr hst] at k1
  have e2 : xv (xra ρ nn H.size) (.ref nn) = .ref H.size := congrArg Value.ref xra_self
  rw [e2] at k1
  exact k1
/-- a new array of numbers -/
theorem x_newa {atype : ArrayType} {t N : Nat} {ty : FieldType} {n : Int32} {a0 : vp_A} (nn : Nat) (hT : xTy[t]? = some ty) (hty : newarray.typeOf atype = ty) (harr : Cond.arrayClass ty ∈ lw_all) (hpr : ∀ C, ty ≠ .object C) (hal : gal Γ = true) (d : decode cc pc = .ok (.newarray atype, 2)) (ha : ∀ cA : ClassId, vp_cell cA a0 = arrV cA N (fun _ => defaultValue ty)) (hx : ∀ ρ, xar ρ a0 = a0) (hxc : xcl h (.inl (t, a0))) (hi : n = nI N) (hN : N ≤ 1000000) (hn : h nn = none) (hp : ¬ xpin nn) (hst : ∀ v ∈ st, xok h v) (hl : ∀ v, some v ∈ l → xok h v) (h1 : kc + 1 ≤ gmc Γ) (h2 : ks + N ≤ gms Γ) (kk : AW Γ cc (kc + 1) (ks + N) (pc + 2) l (.ref nn :: st) (xup h nn (.inl (t, a0)))) : AW Γ cc kc ks pc l (.int n :: st) h := by
  intro p e s m args below meth c ρ H locs ls C R P S L
  subst hi; subst hty
  have hts := C.2.2.2.2.2.2.1
  have hb : componentBytes (newarray.typeOf atype) ≤ 8 := by cases atype <;> simp [newarray.typeOf, componentBytes]
  refine va_newaK C.1 C.2.1 (hts _ harr) rfl d rfl (nI_pos (by omega)) (nI_clamp (by omega)) (by have := Nat.mul_le_mul hN hb; omega) h1 h2 rfl fun H1 cA e1 z1 o1 hAr hNm => ?_
  have hcA : cA = xT (gw Γ) t := by
    have h3 := (C.K.2 t _ (xtys_at hT)).2
    have h4 : s.vm.findClass ("[" ++ (newarray.typeOf atype).toString) = some (xT (gw Γ) t) := by
      cases hq : newarray.typeOf atype with
      | object C => exact absurd hq (hpr C)
      | _ => rw [hq] at h3; exact h3
    exact Option.some.inj (hNm.symm.trans h4)
  subst hcA
  obtain ⟨P1, hr⟩ := P.new (a := H.size) (e' := .inl (t, a0)) (H1 := H1) hn hp (Nat.le_trans C.B S.1) (Nat.le_refl _) hxc (by
    show H1[H.size]? = some (vp_cell (xT (gw Γ) t) (xar ρ a0))
    rw [hx, ha]
    exact e1) o1
  have k1 := kk p e s m args below meth c (xra ρ nn H.size) H1 locs ls C (R.new hal hn hp) P1 (xS_new S (by omega) o1) (by rw [xlv_re hr l 0 hl]; exact L)
  rw [List.map_cons, xvs_eq hr hst] at k1
  have e2 : xv (xra ρ nn H.size) (.ref nn) = .ref H.size := congrArg Value.ref xra_self
  rw [e2] at k1
  exact k1
/-- a new array of references -/
theorem x_newq {own C0 : String} {index t N : Nat} {n : Int32} (nn : Nat) (hT : xTy[t]? = some (.object C0)) (hO : C0 ∈ xAO) (ho : gown Γ = own) (hcl : Cond.classLink own index C0 ∈ lw_all) (hal : gal Γ = true) (d : decode cc pc = .ok (.anewarray index, 3)) (hi : n = nI N) (hN : N ≤ 1000000) (hn : h nn = none) (hp : ¬ xpin nn) (hst : ∀ v ∈ st, xok h v) (hl : ∀ v, some v ∈ l → xok h v) (h1 : kc + 1 ≤ gmc Γ) (h2 : ks + N ≤ gms Γ) (kk : AW Γ cc (kc + 1) (ks + N) (pc + 3) l (.ref nn :: st) (xup h nn (.inl (t, N, .inr (.inr (.inr (.inr (fun _ => none)))))))) : AW Γ cc kc ks pc l (.int n :: st) h := by
  intro p e s m args below meth c ρ H locs ls C R P S L
  subst hi
  have hts := C.2.2.2.2.2.2.1
  refine W.anew C.1 C.2.1 (ho ▸ C.2.2.2.2.2.1) (hts _ hcl) (va_AO.use (C.2.2.2.2.2.2.2.1.2.2.2.2.1 C0 hO)) rfl d rfl (nI_pos (by omega)) (by rw [nI_clamp (by omega)]; omega) h1 (by rw [nI_clamp (by omega)]; exact h2) fun cA kA comp f1 f2 f3 f4 => ?_
  rw [nI_clamp (by omega)]
  generalize hH1 : H.push ({ cls := cA, slots := Array.replicate N .null, vm := .none } : Cell) = H1
  have z1 : H1.size = H.size + 1 := by rw [← hH1, Array.size_push]
  have e1 : H1[H.size]? = some (arrV cA N (fun _ => .null)) := by rw [← hH1, Array.getElem?_push_size, ← arrV_new]
  have o1 : ∀ q : Nat, q < H.size → H1[q]? = H[q]? := fun q hq => by rw [← hH1, Array.getElem?_push, if_neg (Nat.ne_of_lt hq)]
  have hcA : cA = xT (gw Γ) t := by
    obtain ⟨_, _, -, -, -, h3⟩ := (C.K.2 t _ (xtys_at hT)).2
    exact Option.some.inj (f1.symm.trans h3)
  subst hcA
  obtain ⟨P1, hr⟩ := P.new (a := H.size) (e' := .inl (t, N, .inr (.inr (.inr (.inr (fun _ => none)))))) (H1 := H1) hn hp (Nat.le_trans C.B S.1) (Nat.le_refl _) (fun i y hy => by cases hy) (by
    show H1[H.size]? = some (vp_cell (xT (gw Γ) t) (N, .inr (.inr (.inr (.inr (fun _ => none))))))
    exact e1) o1
  have k1 := kk p e s m args below meth c (xra ρ nn H.size) H1 locs ls C (R.new hal hn hp) P1 (xS_new S (by omega) o1) (by rw [xlv_re hr l 0 hl]; exact L)
  rw [List.map_cons, xvs_eq hr hst] at k1
  have e2 : xv (xra ρ nn H.size) (.ref nn) = .ref H.size := congrArg Value.ref xra_self
  rw [e2] at k1
  exact k1
/-- Object's constructor -/
theorem x_objInit {own : String} {idx n : Nat} (ho : gown Γ = own) (h1 : Cond.methodLink own idx Lib.objectInit ∈ lw_all) (h2 : Cond.instanceMethod Lib.objectInit ∈ lw_all) (h3 : Cond.code Lib.objectInit ⟨#[0xb1]⟩ 1 none ∈ lw_all) (d : decode cc pc = .ok (.invokespecial idx, 3)) (hd : 1 ≤ gd Γ) (hst : (st.map fun v => v.category).sum ≤ 8) (kk : AW Γ cc kc ks (pc + 3) l st h) : AW Γ cc kc ks pc l (.ref n :: st) h := by
  intro p e s m args below meth c ρ H locs ls C R P S L
  have hts := C.2.2.2.2.2.2.1
  refine W.objInit C.1 C.2.1 (ho ▸ C.2.2.2.2.2.1) (hts _ h1) (hts _ h2) (hts _ h3) rfl (by rw [C.2.2.1]; exact L.1) rfl d hd ?_ (kk p e s m args below meth c ρ H locs ls C R P S L)
  show 2 * 0 + ((st.map (xv ρ)).map fun v => v.category).sum + 12 ≤ 64 * gd Γ + 20000
  rw [xsum]
  omega
/-- a cast of an array of numbers to its own type -/
theorem x_castA {own nm : String} {index a t : Nat} {x : vp_A} {ty : FieldType} (hT : xTy[t]? = some ty) (hpr : ∀ C, ty ≠ .object C) (hnm : nm = "[" ++ ty.toString) (ho : gown Γ = own) (hl : Cond.classLink own index nm ∈ lw_all) (d : decode cc pc = .ok (.checkcast index, 3)) (hc : h a = some (.inl (t, x))) (kk : AW Γ cc kc ks (pc + 3) l (.ref a :: st) h) : AW Γ cc kc ks pc l (.ref a :: st) h := by
  intro p e s m args below meth c ρ H locs ls C R P S L
  subst hnm
  have h4 : s.vm.findClass ("[" ++ ty.toString) = some (xT (gw Γ) t) := by
    have h3 := (C.K.2 t _ (xtys_at hT)).2
    cases ty with
    | object C => exact absurd rfl (hpr C)
    | _ => exact h3
  exact va_castA C.1 C.2.1 (ho ▸ C.2.2.2.2.2.1) (C.2.2.2.2.2.2.1 _ hl) (P.one hc) 0 rfl h4 d (kk p e s m args below meth c ρ H locs ls C R P S L)
theorem x_acmp_ne {a b : Nat} {off : Int} {tgt : Nat} (d : decode cc pc = .ok (.if_acmp .ne off, 3)) (ht : (pc : Int) + off = (tgt : Int)) (ha : h a ≠ none) (hb : h b ≠ none) (kt : a ≠ b → AW Γ cc kc ks tgt l st h) (kf : a = b → AW Γ cc kc ks (pc + 3) l st h) : AW Γ cc kc ks pc l (.ref b :: .ref a :: st) h := by
  intro p e s m args below meth c ρ H locs ls C R P S L
  refine lv_acmp_ne (rx := some (ρ a)) (ry := some (ρ b)) C.1 C.2.1 d ht (fun q => kt (fun e1 => q (by rw [e1])) p e s m args below meth c ρ H locs ls C R P S L) (fun q => kf (P.2.1 a b ha hb (Option.some.inj q)) p e s m args below meth c ρ H locs ls C R P S L)
/-! throwing, catching -/
theorem x_athrow {q : Nat} {ci : Nat} {fs : List Value} {r : vw_C} (hr : xCl[ci]? = some r) (d : decode cc pc = .ok (.athrow, 1)) (hc : h q = some (.inr (ci, fs))) (kk : AX Γ cc kc ks pc l h r.1 (some q)) : AW Γ cc kc ks pc l (.ref q :: st) h := by
  intro p e s m args below meth c ρ H locs ls C R P S L
  obtain ⟨r', hr', cellV, g1, g2, g3, -⟩ := P.at hc
  refine vx_athrow C.1 C.2.1 d (kk p e s m args below meth c ρ H locs ls _ (ρ q) cellV C R P S L g1 g3 ?_ (fun k hk => by cases hk; rfl))
  rw [g2]
  exact (C.K.1 ci r hr).2.1
/-- not caught here -/
theorem x_out {E : String} {nm : Option Nat} (hhh : ghh Γ = []) (hc : kc ≤ gmc Γ) (hs : ks ≤ gms Γ) (hq : gQ Γ (.inr (E, nm)) h) : AX Γ cc kc ks pc l h E nm := by
  intro p e s m args below meth c ρ H locs ls rest q ce C R P S L hce hcv hcl hk
  refine vx_out (fun x hx => ?_) C.2.2.2.2.1 hce hcv hcl (fun t ht _ => ⟨⟨nm, ρ, h, hq, R, by rw [ht]; exact P, hk⟩, S.F ht⟩) S.2.2 hc hs
  rw [C.2.2.2.2.2.2.2.2.1, hhh] at hx
  simp [tableOf] at hx
/-- not caught here though there are handlers -/
theorem x_outP {own E : String} {nm : Option Nat} (ho : gown Γ = own) (hpass : ∀ z ∈ tableOf (ghh Γ), covers z pc = false) (hc : kc ≤ gmc Γ) (hs : ks ≤ gms Γ) (hq : gQ Γ (.inr (E, nm)) h) : AX Γ cc kc ks pc l h E nm := by
  intro p e s m args below meth c ρ H locs ls rest q ce C R P S L hce hcv hcl hk
  refine vx_out (fun x hx => ?_) C.2.2.2.2.1 hce hcv hcl (fun t ht _ => ⟨⟨nm, ρ, h, hq, R, by rw [ht]; exact P, hk⟩, S.F ht⟩) S.2.2 hc hs
  rw [C.2.2.2.2.2.2.2.2.1] at hx
  exact hpass x hx
/-- caught by the first row that covers and takes it; the reference is named -/
theorem x_catch {own name E : String} {k0 : Nat} (ho : gown Γ = own) (pre : List ExceptionTableEntry) (x : ExceptionTableEntry) (suf : List ExceptionTableEntry) (hsplit : tableOf (ghh Γ) = pre ++ x :: suf)
    (hpass : ∀ z ∈ pre, covers z pc = false ∨ (z.catchType ≠ 0 ∧ E = "java/lang/ArrayIndexOutOfBoundsException" ∧ Cond.classLink own z.catchType "java/lang/NullPointerException" ∈ lw_all)) (hx : covers x pc = true) (h0 : x.catchType ≠ 0)
    (hlink : Cond.classLink own x.catchType name ∈ lw_all) (hcast : Cond.castable E name ∈ lw_tbl) (kk : AW Γ cc kc ks x.handlerPc l [.ref k0] h) : AX Γ cc kc ks pc l h E (some k0) := by
  intro p e s m args below meth c ρ H locs ls rest q ce C R P S L hce hcv hcl hk
  refine vx_catch (ho ▸ C.2.2.2.2.2.1) pre x suf (C.2.2.2.2.2.2.2.2.1.trans hsplit) (fun z hz => ?_) hx h0 (C.2.2.2.2.2.2.1 _ hlink) (va_Nw.use rfl (C.N _ (xNw_in hcast rfl))) hce hcv hcl ?_
  · rcases hpass z hz with q1 | ⟨q1, q2, q3⟩
    · exact Or.inl q1
    · subst q2
      exact Or.inr ⟨q1, _, C.2.2.2.2.2.2.1 _ q3, C.2.2.2.2.2.2.2.1.2.2.2.2.2.1⟩
  · rw [hk k0 rfl]
    exact kk p e s m args below meth c ρ H locs ls C R P S L
/-- .. or it has no name and goes into a local at once -/
theorem x_catchS {own name E : String} {k : Fin 4} {nm : Option Nat} (ho : gown Γ = own) (pre : List ExceptionTableEntry) (x : ExceptionTableEntry) (suf : List ExceptionTableEntry) (hsplit : tableOf (ghh Γ) = pre ++ x :: suf)
    (hpass : ∀ z ∈ pre, covers z pc = false ∨ (z.catchType ≠ 0 ∧ E = "java/lang/ArrayIndexOutOfBoundsException" ∧ Cond.classLink own z.catchType "java/lang/NullPointerException" ∈ lw_all)) (hx : covers x pc = true) (h0 : x.catchType ≠ 0)
    (hlink : Cond.classLink own x.catchType name ∈ lw_all) (hcast : Cond.castable E name ∈ lw_tbl) {tgt : Nat} (htg : x.handlerPc = tgt) (d : decode cc tgt = .ok (.astore_n k, 1)) (hlt : (k : Nat) < gnL Γ) (hp : ∀ u, 0 < (k : Nat) → l[(k : Nat) - 1]? = some (some u) → u.category = 1) (kk : AW Γ cc kc ks (tgt + 1) (l.set k none) [] h) : AX Γ cc kc ks pc l h E nm := by
  intro p e s m args below meth c ρ H locs ls rest q ce C R P S L hce hcv hcl hk
  refine vx_catch (ho ▸ C.2.2.2.2.2.1) pre x suf (C.2.2.2.2.2.2.2.2.1.trans hsplit) (fun z hz => ?_) hx h0 (C.2.2.2.2.2.2.1 _ hlink) (va_Nw.use rfl (C.N _ (xNw_in hcast rfl))) hce hcv hcl ?_
  · rcases hpass z hz with q1 | ⟨q1, q2, q3⟩
    · exact Or.inl q1
    · subst q2
      exact Or.inr ⟨q1, _, C.2.2.2.2.2.2.1 _ q3, C.2.2.2.2.2.2.2.1.2.2.2.2.2.1⟩
  · subst htg
    refine lv_astore_n C.1 C.2.1 d rfl L hlt rfl (fun ls' L' => kk p e s m args below meth c ρ H locs ls' C R P S ?_)
    refine ⟨L'.1, L'.2.1, fun z hz => ?_⟩
    obtain ⟨j, u, g1, g2⟩ := (xlv_mem _ 0 z).mp hz
    rw [Nat.zero_add] at g2
    subst g2
    have hj : j ≠ (k : Nat) := by
      intro e1
      subst e1
      have h5 := (List.getElem?_eq_some_iff.mp g1).1
      rw [List.length_set] at h5
      rw [List.getElem?_set_self h5] at g1
      cases g1
    rw [List.getElem?_set_ne (fun e1 => hj e1.symm)] at g1
    refine L'.2.2 _ (List.mem_cons_of_mem _ (List.mem_filter.mpr ⟨(xlv_mem l 0 _).mpr ⟨j, u, g1, by rw [Nat.zero_add]⟩, ?_⟩))
    have e1 : (j == (k : Nat)) = false := by simpa using hj
    by_cases e2 : j + 1 = (k : Nat)
    · have hu : u.category = 1 := hp u (by omega) (by rw [show (k : Nat) - 1 = j by omega]; exact g1)
      simp [e1, xv_cat, hu]
    · have e3 : (j + 1 == (k : Nat)) = false := by simpa using e2
      simp [e1, e3]
end XN
