/-! ===== rows on fields and arrays ===== -/
set_option maxRecDepth 100000
theorem xfit {ρ : Nat → Nat} {ty : FieldType} {v : Value} (q : fits ty v = true) : fits ty (xv ρ v) = true := by
  cases v <;> cases ty <;> first | exact q | exact absurd q (by simp [fits])
theorem xnar {ρ : Nat → Nat} {ty : FieldType} {v : Value} (q : narrow ty v = v) : narrow ty (xv ρ v) = xv ρ v := by
  cases v <;> first | exact q | (cases ty <;> rfl)
/-- reading the field k of objects of the class ci, in code of the class own, by its entry index -/
def xGet (own : String) (index ci k : Nat) : Prop :=
  ∀ {p : Program} {l : Launch} {e : Env} {R : Room} {s : State} {m : MethodId} {args : Array Value} {below : List Frame} {meth : Method} {c : Code} {H : Heap} {locs : List Loc} {cells slots : Nat} {Q : State → Prop} {cc : ByteArray} {pc : Nat} {ls : Array Slot} {rest : List Value} {D : va_G} {tys : List (ClassId × FieldType)} {a : Nat} {fs : List Value} {v : Value},
    p.tables.exec = Jvm.exec → c.code = cc → (∀ w ∈ lw_all, w.before args s = true) → s.vm.findClass own = some m.cls → va_K D xCl tys s → (∀ d ∈ xNw, va_Nw d s) → va_P D xCl [(a, .inr (ci, fs))] H → fs[k]? = some v → decode cc pc = .ok (.getfield index, 3) →
    W p l e R s m args below meth c H locs cells slots Q (F0 m (pc + 3) ls (v :: rest)) → W p l e R s m args below meth c H locs cells slots Q (F0 m pc ls (.ref a :: rest))
theorem xGet.of {own C : String} {T : u_T} {N ci index k : Nat} (hc : xCl[ci]? = some (C, T, N)) (hin : ∀ w ∈ u_ws C T N, w ∈ lw_all) (hk : k < N) (hl : Cond.fieldLink own index (T k).1 (T k).2.1 (T k).2.2.1 ∈ lw_all) : xGet own index ci k :=
  fun hx hb hts hown hK _ hP hv d kk => va_get (C := C) (T := T) (N := N) hx hb hts hin hown hK hP 0 rfl hc k hk (hts _ hl) (fun _ h9 => h9) hv d kk
theorem xNw_in {d : Cond} (h : d ∈ lw_tbl) (g : xst d = true) : d ∈ xNw := List.mem_filter.mpr ⟨h, g⟩
theorem xGet.ofN {own C host : String} {T : u_T} {N ci index k : Nat} (hc : xCl[ci]? = some (C, T, N)) (hin : ∀ w ∈ u_ws C T N, w ∈ lw_all) (hk : k < N) (hl : Cond.fieldLinkNest own index (T k).1 (T k).2.1 (T k).2.2.1 host ∈ lw_tbl) : xGet own index ci k :=
  fun hx hb hts hown hK hN hP hv d kk => va_getN (C := C) (T := T) (N := N) hx hb hts hin hown hK hP 0 rfl hc k hk (va_Nw.use rfl (hN _ (xNw_in hl rfl))) (fun _ h9 => h9) hv d kk
theorem xGet.ofS {own ref C : String} {T : u_T} {N ci index k : Nat} (hc : xCl[ci]? = some (C, T, N)) (hin : ∀ w ∈ u_ws C T N, w ∈ lw_all) (hk : k < N) (hl : Cond.fieldLink own index ref (T k).2.1 (T k).2.2.1 ∈ lw_all) (hs : Cond.sameField ref (T k).1 (T k).2.1 (T k).2.2.1 ∈ lw_all) : xGet own index ci k :=
  fun hx hb hts hown hK _ hP hv d kk => va_get (C := C) (T := T) (N := N) hx hb hts hin hown hK hP 0 rfl hc k hk (hts _ hl) (fun x h9 => u_same (hts _ hs) x h9) hv d kk
/-- storing into it, a value of the type ty -/
def xPut (own : String) (index ci k : Nat) (ty : FieldType) (ini : Bool) : Prop :=
  ∀ {p : Program} {l : Launch} {e : Env} {R : Room} {s : State} {m : MethodId} {args : Array Value} {below : List Frame} {meth : Method} {c : Code} {H : Heap} {locs : List Loc} {cells slots : Nat} {Q : State → Prop} {cc : ByteArray} {pc : Nat} {ls : Array Slot} {rest : List Value} {D : va_G} {tys : List (ClassId × FieldType)} {a : Nat} {fs : List Value} {v : Value},
    p.tables.exec = Jvm.exec → c.code = cc → (∀ w ∈ lw_all, w.before args s = true) → s.vm.findClass own = some m.cls → va_K D xCl tys s → (∀ d ∈ xNw, va_Nw d s) → (ini = true → meth.name = "<init>") → va_P D xCl [(a, .inr (ci, fs))] H → narrow ty v = v → fits ty v = true → k < fs.length → decode cc pc = .ok (.putfield index, 3) →
    (∀ (H1 : Heap) (sl : Nat), va_at D xCl (a, .inr (ci, fs.set k v)) H1 → H1.size = H.size → (∀ q : Nat, q ≠ a → H1[q]? = H[q]?) → W p l e R s m args below meth c H1 (locs ++ [⟨a, sl⟩]) cells slots Q (F0 m (pc + 3) ls rest)) →
    W p l e R s m args below meth c H locs cells slots Q (F0 m pc ls (v :: .ref a :: rest))
theorem xPut.of {own C : String} {T : u_T} {N ci index k : Nat} {ty : FieldType} {ini : Bool} (ty0 : Nat → FieldType) (hc : xCl[ci]? = some (C, T, N)) (hin : ∀ w ∈ u_ws C T N, w ∈ lw_all) (hty : ∀ k, k < N → parseFieldDescriptor (T k).2.2.1 = some (ty0 k)) (hnm : ∀ a, a < N → ∀ b, b < N → a ≠ b → (T a).2.1 ≠ (T b).2.1) (hk : k < N) (hfin : (T k).2.2.2 = false) (hd : ty0 k = ty) (hl : Cond.fieldLink own index (T k).1 (T k).2.1 (T k).2.2.1 ∈ lw_all) : xPut own index ci k ty ini := by
  intro p l e R s m args below meth c H locs cells slots Q cc pc ls rest D tys a fs v hx hb hts hown hK _ _ hP hn hfit hlen d kk
  have hap := va_apart (own := own) hts hin ty0 hty hnm hK hc
  obtain ⟨r, h1, cell, q1, q2, q3, q4⟩ := hP 0 _ rfl
  have hr : r = (C, T, N) := Option.some.inj (h1.symm.trans hc)
  subst hr
  obtain ⟨hS, hfc, kC, hkC, hkind⟩ := hK.1 ci _ hc
  obtain ⟨cf, kf, fi, f, hi, hsl⟩ := hS k hk
  have hlay := hts _ (hin _ (u_in_lay hk))
  unfold u_lay at hlay
  rw [if_neg (by rw [hfin]; decide)] at hlay
  have hst := (u_facts hfc hkC (u_lays hts hin hk) hi).1
  have h6 := u_store hfc hkC hkind hlay hi (hd ▸ hty k hk) hn hfit
  refine W.putK hx hb (f := f) ⟨hown, hts _ hl, ⟨_, _, _, hi⟩, hst⟩ (by rw [q2]; exact h6) q1 q3 (by rw [hsl]; exact k2_hasslot (q4 k hk)) rfl rfl d fun H' e1 e2 e3 => ?_
  rw [hsl] at e1 ⊢
  exact kk H' _ ⟨_, hc, t_OB.to (V := updV (vp_V fs) k v) ⟨_, e1, q2, q3, t_set q4 hap hk v⟩ (fun j _ => vp_updV_set hlen v j)⟩ e2 e3
theorem xPut.ofN {own C host : String} {T : u_T} {N ci index k : Nat} {ty : FieldType} {ini : Bool} (ty0 : Nat → FieldType) (hc : xCl[ci]? = some (C, T, N)) (hin : ∀ w ∈ u_ws C T N, w ∈ lw_all) (hty : ∀ k, k < N → parseFieldDescriptor (T k).2.2.1 = some (ty0 k)) (hnm : ∀ a, a < N → ∀ b, b < N → a ≠ b → (T a).2.1 ≠ (T b).2.1) (hk : k < N) (hfin : (T k).2.2.2 = false) (hd : ty0 k = ty) (hl : Cond.fieldLinkNest own index (T k).1 (T k).2.1 (T k).2.2.1 host ∈ lw_tbl) : xPut own index ci k ty ini := by
  intro p l e R s m args below meth c H locs cells slots Q cc pc ls rest D tys a fs v hx hb hts hown hK hN _ hP hn hfit hlen d kk
  have hap := va_apart (own := own) hts hin ty0 hty hnm hK hc
  obtain ⟨r, h1, cell, q1, q2, q3, q4⟩ := hP 0 _ rfl
  have hr : r = (C, T, N) := Option.some.inj (h1.symm.trans hc)
  subst hr
  obtain ⟨hS, hfc, kC, hkC, hkind⟩ := hK.1 ci _ hc
  obtain ⟨cf, kf, fi, f, hi, hsl⟩ := hS k hk
  have hlay := hts _ (hin _ (u_in_lay hk))
  unfold u_lay at hlay
  rw [if_neg (by rw [hfin]; decide)] at hlay
  have hst := (u_facts hfc hkC (u_lays hts hin hk) hi).1
  have h6 := u_store hfc hkC hkind hlay hi (hd ▸ hty k hk) hn hfit
  refine va_WputK hx hb (f := f) hown (va_Nw.use rfl (hN _ (xNw_in hl rfl))) hi hst (by rw [q2]; exact h6) q1 q3 (by rw [hsl]; exact k2_hasslot (q4 k hk)) rfl rfl d fun H' e1 e2 e3 => ?_
  rw [hsl] at e1 ⊢
  exact kk H' _ ⟨_, hc, t_OB.to (V := updV (vp_V fs) k v) ⟨_, e1, q2, q3, t_set q4 hap hk v⟩ (fun j _ => vp_updV_set hlen v j)⟩ e2 e3
theorem xPut.ofF {own C : String} {T : u_T} {N ci index k : Nat} {ty : FieldType} (ty0 : Nat → FieldType) (hc : xCl[ci]? = some (C, T, N)) (hin : ∀ w ∈ u_ws C T N, w ∈ lw_all) (hty : ∀ k, k < N → parseFieldDescriptor (T k).2.2.1 = some (ty0 k)) (hnm : ∀ a, a < N → ∀ b, b < N → a ≠ b → (T a).2.1 ≠ (T b).2.1) (hk : k < N) (hfin : (T k).2.2.2 = true) (hdecl : (T k).1 = own) (hd : ty0 k = ty) (hl : Cond.fieldLink own index (T k).1 (T k).2.1 (T k).2.2.1 ∈ lw_all) : xPut own index ci k ty true := by
  intro p l e R s m args below meth c H locs cells slots Q cc pc ls rest D tys a fs v hx hb hts hown hK _ hini hP hn hfit hlen d kk
  have hap := va_apart (own := own) hts hin ty0 hty hnm hK hc
  obtain ⟨r, h1, cell, q1, q2, q3, q4⟩ := hP 0 _ rfl
  have hr : r = (C, T, N) := Option.some.inj (h1.symm.trans hc)
  subst hr
  obtain ⟨hS, hfc, kC, hkC, hkind⟩ := hK.1 ci _ hc
  obtain ⟨cf, kf, fi, f, hi, hsl⟩ := hS k hk
  have hlay := hts _ (hin _ (u_in_lay hk))
  unfold u_lay at hlay
  rw [if_pos hfin] at hlay
  have hst := (u_facts hfc hkC (u_lays hts hin hk) hi).1
  have hcf : m.cls = cf := by
    obtain ⟨_, _, c', _, _, _, -, -, hf', -, -, -, hown2, -⟩ := Cond.laysFinal_spec hlay
    have e1 : c' = cf := by have := hi.symm.trans hf'; simp at this; exact this.1.symm
    rw [hdecl] at hown2
    rw [← e1]; exact Option.some.inj (hown.symm.trans hown2)
  have h6 := u_fits hfc hkC hkind (Or.inr hlay) hi (hd ▸ hty k hk) hn hfit
  refine W.putFinK hx hb hown (hts _ hl) hi hst hcf (hini rfl) (by rw [q2]; exact h6) q1 q3 (by rw [hsl]; exact k2_hasslot (q4 k hk)) rfl rfl d fun H' e1 e2 e3 => ?_
  rw [hsl] at e1 ⊢
  exact kk H' _ ⟨_, hc, t_OB.to (V := updV (vp_V fs) k v) ⟨_, e1, q2, q3, t_set q4 hap hk v⟩ (fun j _ => vp_updV_set hlen v j)⟩ e2 e3
section XF
variable {Γ : xG} {cc : ByteArray} {kc ks pc : Nat} {l : List (Option Value)} {st : List Value} {h : xH}
theorem xCtx.K {Γ : xG} {cc : ByteArray} {p : Program} {s : State} {m : MethodId} {args : Array Value} {meth : Method} {c : Code} (C : xCtx Γ cc p s m args meth c) : va_K (xD (gw Γ)) xCl (xtys (gw Γ)) s := C.2.2.2.2.2.2.2.1.2.2.1
theorem xCtx.N {Γ : xG} {cc : ByteArray} {p : Program} {s : State} {m : MethodId} {args : Array Value} {meth : Method} {c : Code} (C : xCtx Γ cc p s m args meth c) : ∀ d ∈ xNw, va_Nw d s := C.2.2.2.2.2.2.2.1.2.2.2.1
theorem x_getf {own : String} {index ci k n : Nat} {fs : List Value} {v : Value} (G : xGet own index ci k) (ho : gown Γ = own) (d : decode cc pc = .ok (.getfield index, 3)) (hc : h n = some (.inr (ci, fs))) (hv : fs[k]? = some v) (kk : AW Γ cc kc ks (pc + 3) l (v :: st) h) : AW Γ cc kc ks pc l (.ref n :: st) h := by
  intro p e s m args below meth c ρ H locs ls C R P S L
  exact G C.1 C.2.1 C.2.2.2.2.2.2.1 (ho ▸ C.2.2.2.2.2.1) C.K C.N (P.one hc) (by rw [List.getElem?_map, hv]; rfl) d (kk p e s m args below meth c ρ H locs ls C R P S L)
theorem xRel.up {Γ : xG} {ρ : Nat → Nat} {h : xH} {n : Nat} {e : xE} (R : xRel Γ ρ h) : xRel Γ ρ (xup h n e) := ⟨R.1, fun m hm => xup_some (R.2.1 m hm), R.2.2⟩
theorem xS_put {A : Nat → Prop} {H0 H H1 : Heap} {locs : List Loc} {a k : Nat} (S : va_S A H0 H locs) (z : H1.size = H.size) (oq : ∀ q : Nat, q ≠ a → H1[q]? = H[q]?) (ha : A a) : va_S A H0 H1 (locs ++ [⟨a, k⟩]) := S.put z oq ha
theorem x_putf {own : String} {index ci k n : Nat} {ty : FieldType} {ini : Bool} {fs : List Value} {v : Value} (G : xPut own index ci k ty ini) (ho : gown Γ = own) (hi : gini Γ = ini) (d : decode cc pc = .ok (.putfield index, 3)) (hc : h n = some (.inr (ci, fs))) (hv : xok h v) (hn : narrow ty v = v) (hf : fits ty v = true) (hk : k < fs.length) (kk : AW Γ cc kc ks (pc + 3) l st (xup h n (.inr (ci, fs.set k v)))) : AW Γ cc kc ks pc l (v :: .ref n :: st) h := by
  intro p e s m args below meth c ρ H locs ls C R P S L
  refine G C.1 C.2.1 C.2.2.2.2.2.2.1 (ho ▸ C.2.2.2.2.2.1) C.K C.N (fun q => C.2.2.2.2.2.2.2.2.2 (hi.trans q)) (P.one hc) (xnar hn) (xfit hf) (by rw [List.length_map]; exact hk) d fun H1 sl g z oq => ?_
  have hcl : xcl h (.inr (ci, fs.set k v)) := fun u hu => (List.mem_or_eq_of_mem_set hu).elim (fun q => (P.1 n _ hc).2.2 u q) (fun q => q ▸ hv)
  refine kk p e s m args below meth c ρ H1 _ ls C R.up (P.put hc ?_ oq hcl) (S.put z oq (P.1 n _ hc).2.1) L
  show va_at (xD (gw Γ)) xCl (ρ n, .inr (ci, (fs.set k v).map (xv ρ))) H1
  rw [List.map_set]
  exact g
/-- arrays of numbers -/
theorem x_iald {a k n : Nat} {f : Nat → Int32} {i : Int32} (d : decode cc pc = .ok (.iaload, 1)) (hc : h a = some (.inl (0, n, .inl f))) (hi : i = nI k) (hk : k < n) (hn : n ≤ 1000000) (kk : AW Γ cc kc ks (pc + 1) l (.int (f k) :: st) h) : AW Γ cc kc ks pc l (.int i :: .ref a :: st) h := by
  intro p e s m args below meth c ρ H locs ls C R P S L
  subst hi
  refine va_iald C.1 C.2.1 C.K (P.one hc) 0 0 rfl rfl (vp_in_nI hk (by omega)) d ?_
  rw [nI_clamp (by omega)]
  exact kk p e s m args below meth c ρ H locs ls C R P S L
theorem x_lald {a k n : Nat} {f : Nat → Int64} {i : Int32} (d : decode cc pc = .ok (.laload, 1)) (hc : h a = some (.inl (1, n, .inr (.inl f)))) (hi : i = nI k) (hk : k < n) (hn : n ≤ 1000000) (kk : AW Γ cc kc ks (pc + 1) l (.long (f k) :: st) h) : AW Γ cc kc ks pc l (.int i :: .ref a :: st) h := by
  intro p e s m args below meth c ρ H locs ls C R P S L
  subst hi
  refine va_lald C.1 C.2.1 C.K (P.one hc) 0 1 rfl rfl (vp_in_nI hk (by omega)) d ?_
  rw [nI_clamp (by omega)]
  exact kk p e s m args below meth c ρ H locs ls C R P S L
theorem x_bald {a k n : Nat} {f : Nat → Int32} {i : Int32} (d : decode cc pc = .ok (.baload, 1)) (hc : h a = some (.inl (2, n, .inl f))) (hi : i = nI k) (hk : k < n) (hn : n ≤ 1000000) (kk : AW Γ cc kc ks (pc + 1) l (.int (f k) :: st) h) : AW Γ cc kc ks pc l (.int i :: .ref a :: st) h := by
  intro p e s m args below meth c ρ H locs ls C R P S L
  subst hi
  refine va_bald C.1 C.2.1 C.K (P.one hc) 0 2 rfl rfl (vp_in_nI hk (by omega)) d ?_
  rw [nI_clamp (by omega)]
  exact kk p e s m args below meth c ρ H locs ls C R P S L
theorem x_zald {a k n : Nat} {f : Nat → Int32} {i : Int32} (d : decode cc pc = .ok (.baload, 1)) (hc : h a = some (.inl (3, n, .inl f))) (hi : i = nI k) (hk : k < n) (hn : n ≤ 1000000) (kk : AW Γ cc kc ks (pc + 1) l (.int (f k) :: st) h) : AW Γ cc kc ks pc l (.int i :: .ref a :: st) h := by
  intro p e s m args below meth c ρ H locs ls C R P S L
  subst hi
  refine va_zald C.1 C.2.1 C.K (P.one hc) 0 3 rfl rfl (vp_in_nI hk (by omega)) d ?_
  rw [nI_clamp (by omega)]
  exact kk p e s m args below meth c ρ H locs ls C R P S L
theorem x_sald {a k n : Nat} {f : Nat → Int32} {i : Int32} (d : decode cc pc = .ok (.saload, 1)) (hc : h a = some (.inl (4, n, .inl f))) (hi : i = nI k) (hk : k < n) (hn : n ≤ 1000000) (kk : AW Γ cc kc ks (pc + 1) l (.int (f k) :: st) h) : AW Γ cc kc ks pc l (.int i :: .ref a :: st) h := by
  intro p e s m args below meth c ρ H locs ls C R P S L
  subst hi
  refine va_sald C.1 C.2.1 C.K (P.one hc) 0 4 rfl rfl (vp_in_nI hk (by omega)) d ?_
  rw [nI_clamp (by omega)]
  exact kk p e s m args below meth c ρ H locs ls C R P S L
theorem xv_rf {ρ : Nat → Nat} {o : Option Nat} : xv ρ (va_rf o) = va_rf (o.map ρ) := by cases o <;> rfl
theorem x_aald {a k n t : Nat} {C0 : String} {f : Nat → Option Nat} {i : Int32} (hT : xTy[t]? = some (.object C0)) (d : decode cc pc = .ok (.aaload, 1)) (hc : h a = some (.inl (t, n, .inr (.inr (.inr (.inr f)))))) (hi : i = nI k) (hk : k < n) (hn : n ≤ 1000000) {v : Value} (hv : va_rf (f k) = v) (kk : AW Γ cc kc ks (pc + 1) l (v :: st) h) : AW Γ cc kc ks pc l (.int i :: .ref a :: st) h := by
  intro p e s m args below meth c ρ H locs ls C R P S L
  subst hi
  have hT2 : (xtys (gw Γ))[t]? = some (xT (gw Γ) t, .object C0) := by
    match t, hT with
    | 5, hT => cases hT; rfl
    | 6, hT => cases hT; rfl
    | 7, hT => cases hT; rfl
    | 8, hT => cases hT; rfl
    | 9, hT => cases hT; rfl
    | 10, hT => cases hT; rfl
    | 0, hT => cases hT
    | 1, hT => cases hT
    | 2, hT => cases hT
    | 3, hT => cases hT
    | 4, hT => cases hT
    | t + 11, hT => cases hT
  refine va_aldq C.1 C.2.1 C.K (P.one hc) 0 t (f := fun i => (f i).map ρ) rfl hT2 (vp_in_nI hk (by omega)) d ?_
  rw [nI_clamp (by omega)]
  have k1 := kk p e s m args below meth c ρ H locs ls C R P S L
  rw [← hv, List.map_cons, xv_rf] at k1
  exact k1
theorem x_alen {a t : Nat} {x : vp_A} {ty : FieldType} (hT : xTy[t]? = some ty) (d : decode cc pc = .ok (.arraylength, 1)) (hc : h a = some (.inl (t, x))) (kk : AW Γ cc kc ks (pc + 1) l (.int (nI x.1) :: st) h) : AW Γ cc kc ks pc l (.ref a :: st) h := by
  intro p e s m args below meth c ρ H locs ls C R P S L
  have hT2 : (xtys (gw Γ))[t]? = some (xT (gw Γ) t, ty) := by
    match t, hT with
    | 0, hT => cases hT; rfl
    | 1, hT => cases hT; rfl
    | 2, hT => cases hT; rfl
    | 3, hT => cases hT; rfl
    | 4, hT => cases hT; rfl
    | 5, hT => cases hT; rfl
    | 6, hT => cases hT; rfl
    | 7, hT => cases hT; rfl
    | 8, hT => cases hT; rfl
    | 9, hT => cases hT; rfl
    | 10, hT => cases hT; rfl
    | t + 11, hT => cases hT
  exact va_alen C.1 C.2.1 C.K (P.one hc) 0 t (x := xar ρ x) rfl hT2 rfl d (kk p e s m args below meth c ρ H locs ls C R P S L)
/-- what a store into an array of numbers makes of its cell -/
theorem xcell_put {cA : ClassId} {n k : Nat} {f : Nat → Int32} {x : Int32} {v : Value} {a : Nat} {H1 : Heap} (hv : v = .int x) (e : H1[a]? = some ((vp_cell cA (n, .inl f)).setSlot k v)) : H1[a]? = some (vp_cell cA (n, .inl (upd f k x))) := by
  subst hv
  rw [e, vp_cell_i, vp_cell_i, arrV_store]
  congr 2
  funext q
  by_cases hq : q = k
  · subst hq
    simp [updV, upd]
  · simp [updV, upd, hq]
theorem xcell_putL {cA : ClassId} {n k : Nat} {f : Nat → Int64} {x : Int64} {a : Nat} {H1 : Heap} (e : H1[a]? = some ((vp_cell cA (n, .inr (.inl f))).setSlot k (.long x))) : H1[a]? = some (vp_cell cA (n, .inr (.inl (vp_updL f k x)))) := by
  rw [e, vp_cell_l, vp_cell_l, arrV_store]
  congr 2
  funext q
  by_cases hq : q = k
  · subst hq
    simp [updV, vp_updL]
  · simp [updV, vp_updL, hq]
theorem x_iast {a k n : Nat} {f : Nat → Int32} {i x : Int32} (d : decode cc pc = .ok (.iastore, 1)) (hc : h a = some (.inl (0, n, .inl f))) (hi : i = nI k) (hk : k < n) (hn : n ≤ 1000000) (kk : AW Γ cc kc ks (pc + 1) l st (xup h a (.inl (0, n, .inl (upd f k x))))) : AW Γ cc kc ks pc l (.int x :: .int i :: .ref a :: st) h := by
  intro p e s m args below meth c ρ H locs ls C R P S L
  subst hi
  refine W.iast C.1 C.2.1 (P.at hc) ((C.K.2 0 _ rfl).1 n (fun j => .int (f j))) (fun q => by cases q) (by show ¬ (nI k < 0 ∨ (arrV _ _ _).slots.size ≤ _); rw [arrV_size]; exact vp_in_nI (N := n) hk (by omega)) rfl rfl d fun H1 g z oq => ?_
  rw [nI_clamp (by omega)] at g
  exact kk p e s m args below meth c ρ H1 _ ls C R.up (P.put hc (xcell_put rfl g) oq trivial) (S.put z oq (P.1 a _ hc).2.1) L
theorem x_bast {a k n : Nat} {f : Nat → Int32} {i x : Int32} (d : decode cc pc = .ok (.bastore, 1)) (hc : h a = some (.inl (2, n, .inl f))) (hi : i = nI k) (hk : k < n) (hn : n ≤ 1000000) (kk : AW Γ cc kc ks (pc + 1) l st (xup h a (.inl (2, n, .inl (upd f k x.toInt8.toInt32))))) : AW Γ cc kc ks pc l (.int x :: .int i :: .ref a :: st) h := by
  intro p e s m args below meth c ρ H locs ls C R P S L
  subst hi
  refine W.bast C.1 C.2.1 (P.at hc) ((C.K.2 2 _ rfl).1 n (fun j => .int (f j))) (fun q => by cases q) (by show ¬ (nI k < 0 ∨ (arrV _ _ _).slots.size ≤ _); rw [arrV_size]; exact vp_in_nI (N := n) hk (by omega)) rfl rfl d fun H1 g z oq => ?_
  rw [nI_clamp (by omega)] at g
  exact kk p e s m args below meth c ρ H1 _ ls C R.up (P.put hc (xcell_put rfl g) oq trivial) (S.put z oq (P.1 a _ hc).2.1) L
theorem x_zast {a k n : Nat} {f : Nat → Int32} {i x : Int32} (hx : narrow .boolean (.int x) = .int x) (d : decode cc pc = .ok (.bastore, 1)) (hc : h a = some (.inl (3, n, .inl f))) (hi : i = nI k) (hk : k < n) (hn : n ≤ 1000000) (kk : AW Γ cc kc ks (pc + 1) l st (xup h a (.inl (3, n, .inl (upd f k x))))) : AW Γ cc kc ks pc l (.int x :: .int i :: .ref a :: st) h := by
  intro p e s m args below meth c ρ H locs ls C R P S L
  subst hi
  refine W.zast C.1 C.2.1 (P.at hc) ((C.K.2 3 _ rfl).1 n (fun j => .int (f j))) (fun q => by cases q) (by show ¬ (nI k < 0 ∨ (arrV _ _ _).slots.size ≤ _); rw [arrV_size]; exact vp_in_nI (N := n) hk (by omega)) rfl rfl d fun H1 g z oq => ?_
  rw [nI_clamp (by omega)] at g
  exact kk p e s m args below meth c ρ H1 _ ls C R.up (P.put hc (xcell_put hx g) oq trivial) (S.put z oq (P.1 a _ hc).2.1) L
theorem x_sast {a k n : Nat} {f : Nat → Int32} {i x : Int32} (d : decode cc pc = .ok (.sastore, 1)) (hc : h a = some (.inl (4, n, .inl f))) (hi : i = nI k) (hk : k < n) (hn : n ≤ 1000000) (kk : AW Γ cc kc ks (pc + 1) l st (xup h a (.inl (4, n, .inl (upd f k x.toInt16.toInt32))))) : AW Γ cc kc ks pc l (.int x :: .int i :: .ref a :: st) h := by
  intro p e s m args below meth c ρ H locs ls C R P S L
  subst hi
  refine W.sast C.1 C.2.1 (P.at hc) ((C.K.2 4 _ rfl).1 n (fun j => .int (f j))) (fun q => by cases q) (by show ¬ (nI k < 0 ∨ (arrV _ _ _).slots.size ≤ _); rw [arrV_size]; exact vp_in_nI (N := n) hk (by omega)) rfl rfl d fun H1 g z oq => ?_
  rw [nI_clamp (by omega)] at g
  exact kk p e s m args below meth c ρ H1 _ ls C R.up (P.put hc (xcell_put rfl g) oq trivial) (S.put z oq (P.1 a _ hc).2.1) L
theorem x_last {a k n : Nat} {f : Nat → Int64} {i : Int32} {x : Int64} (d : decode cc pc = .ok (.lastore, 1)) (hc : h a = some (.inl (1, n, .inr (.inl f)))) (hi : i = nI k) (hk : k < n) (hn : n ≤ 1000000) (kk : AW Γ cc kc ks (pc + 1) l st (xup h a (.inl (1, n, .inr (.inl (vp_updL f k x)))))) : AW Γ cc kc ks pc l (.long x :: .int i :: .ref a :: st) h := by
  intro p e s m args below meth c ρ H locs ls C R P S L
  subst hi
  refine W.last C.1 C.2.1 (P.at hc) ((C.K.2 1 _ rfl).1 n (fun j => .long (f j))) (fun q => by cases q) (by show ¬ (nI k < 0 ∨ (arrV _ _ _).slots.size ≤ _); rw [arrV_size]; exact vp_in_nI (N := n) hk (by omega)) rfl rfl d fun H1 g z oq => ?_
  rw [nI_clamp (by omega)] at g
  exact kk p e s m args below meth c ρ H1 _ ls C R.up (P.put hc (xcell_putL g) oq trivial) (S.put z oq (P.1 a _ hc).2.1) L
end XF
