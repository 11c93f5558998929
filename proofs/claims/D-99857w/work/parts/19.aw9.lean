/-! ===== Math's methods (their bytecode may be an entry's: rows of the kit) ===== -/
set_option maxRecDepth 100000
section XMath
variable {Γ : xG} {cc : ByteArray} {kc ks pc : Nat} {l : List (Option Value)} {st : List Value} {h : xH}
def maxS (x y : Int32) : Int32 := if x < y then y else x
def minS (x y : Int32) : Int32 := if y < x then y else x
theorem x_mmax {own : String} {index : Nat} {x y : Int32} (ho : gown Γ = own) (h1 : Cond.methodLink own index Lib.Math.max.name ∈ lw_all) (h2 : Cond.static Lib.Math.max.name ∈ lw_all) (h3 : Cond.initialized "java/lang/Math" ∈ lw_all) (h4 : Cond.code Lib.Math.max.name Lib.Math.max.code 2 (some .int) ∈ lw_all) (hW : (st.map fun v => v.category).sum ≤ 8) (hc : kc ≤ gmc Γ) (hs : ks ≤ gms Γ) (hd : 1 ≤ gd Γ) (d : decode cc pc = .ok (.invokestatic index, 3)) (k : AW Γ cc kc ks (pc + 3) l (.int (maxS x y) :: st) h) : AW Γ cc kc ks pc l (.int y :: .int x :: st) h :=
  fun p e s m args below meth c ρ H locs ls C R P S L => va_mmax C.1 C.2.1 (C.2.2.1.trans L.1.symm) (ho ▸ C.2.2.2.2.2.1) (C.2.2.2.2.2.2.1 _ h1) (C.2.2.2.2.2.2.1 _ h2) (C.2.2.2.2.2.2.1 _ h3) (C.2.2.2.2.2.2.1 _ h4) (by show 1 ≤ gd Γ; exact hd) (by rw [xsum]; show _ ≤ 64 * gd Γ + 20000; omega) hc hs d (k p e s m args below meth c ρ H locs ls C R P S L)
theorem x_mmin {own : String} {index : Nat} {x y : Int32} (ho : gown Γ = own) (h1 : Cond.methodLink own index Lib.Math.min.name ∈ lw_all) (h2 : Cond.static Lib.Math.min.name ∈ lw_all) (h3 : Cond.initialized "java/lang/Math" ∈ lw_all) (h4 : Cond.code Lib.Math.min.name Lib.Math.min.code 2 (some .int) ∈ lw_all) (hW : (st.map fun v => v.category).sum ≤ 8) (hc : kc ≤ gmc Γ) (hs : ks ≤ gms Γ) (hd : 1 ≤ gd Γ) (d : decode cc pc = .ok (.invokestatic index, 3)) (k : AW Γ cc kc ks (pc + 3) l (.int (minS x y) :: st) h) : AW Γ cc kc ks pc l (.int y :: .int x :: st) h :=
  fun p e s m args below meth c ρ H locs ls C R P S L => va_mmin C.1 C.2.1 (C.2.2.1.trans L.1.symm) (ho ▸ C.2.2.2.2.2.1) (C.2.2.2.2.2.2.1 _ h1) (C.2.2.2.2.2.2.1 _ h2) (C.2.2.2.2.2.2.1 _ h3) (C.2.2.2.2.2.2.1 _ h4) (by show 1 ≤ gd Γ; exact hd) (by rw [xsum]; show _ ≤ 64 * gd Γ + 20000; omega) hc hs d (k p e s m args below meth c ρ H locs ls C R P S L)
theorem x_mabsL {own : String} {index : Nat} {x : Int64} (ho : gown Γ = own) (h1 : Cond.methodLink own index Lib.MathLoose.abs_long.x ∈ lw_all) (h2 : Cond.static Lib.MathLoose.abs_long.x ∈ lw_all) (h3 : Cond.initialized "java/lang/Math" ∈ lw_all) (h4 : Cond.code Lib.MathLoose.abs_long.x Lib.MathLoose.abs_long.code 2 (some .long) ∈ lw_all) (hW : (st.map fun v => v.category).sum ≤ 8) (hc : kc ≤ gmc Γ) (hs : ks ≤ gms Γ) (hd : 1 ≤ gd Γ) (d : decode cc pc = .ok (.invokestatic index, 3)) (k : AW Γ cc kc ks (pc + 3) l (.long (if 0 < x then x else -x) :: st) h) : AW Γ cc kc ks pc l (.long x :: st) h :=
  fun p e s m args below meth c ρ H locs ls C R P S L => va_mabs_long C.1 C.2.1 (C.2.2.1.trans L.1.symm) (ho ▸ C.2.2.2.2.2.1) (C.2.2.2.2.2.2.1 _ h1) (C.2.2.2.2.2.2.1 _ h2) (C.2.2.2.2.2.2.1 _ h3) (C.2.2.2.2.2.2.1 _ h4) (by show 1 ≤ gd Γ; exact hd) (by rw [xsum]; show _ ≤ 64 * gd Γ + 20000; omega) hc hs d (k p e s m args below meth c ρ H locs ls C R P S L)
end XMath
theorem absN {n : Nat} (hn : n < 2 ^ 63) : (if 0 < lN n then lN n else - lN n) = lN n := by
  by_cases h : n = 0
  · subst h
    decide +kernel
  · exact if_pos ((lN_ltI (a := 0) (by decide) hn).mpr (by omega))
