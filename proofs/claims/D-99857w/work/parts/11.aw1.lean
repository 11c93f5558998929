/-! ===== THE ABSTRACT LAYER: heaps by names; one judgement AW for a point of a method, one contract CT for a method ===== -/
set_option maxRecDepth 100000
def TX4 : u_T := fun _ => ("TinFen$Metal", "-", "I", false)
def TX5 : u_T := fun _ => ("TinFen$Lead", "-", "I", false)
/-- the classes whose objects the abstract heaps hold -/
abbrev xCl : List vw_C := [(RX0, TX0, 25), (RX2, TX2, 19), (RX3, TX3, 8), (RX4, TX4, 0), (RX5, TX5, 0), (RX6, TX6, 10), (RX7, TX7, 2), (RX8, TX8, 47), (RX9, TX9, 4), (RX10, TX10, 7), (RX11, TX11, 7), (RX12, TX12, 3)]
/-- an abstract cell: an array of the k-th type with its length and contents, or an object of the ci-th class with its fields -/
abbrev xE : Type := (Nat × vp_A) ⊕ (Nat × List Value)
abbrev xH : Type := Nat → Option xE
/-- the world of a run: launch, numbers of classes and slots, array classes, where our cells begin, the constant texts and their bytes -/
abbrev xW : Type := Launch × va_G × (Nat → ClassId) × Nat × (Nat → Nat) × (Nat → Nat)
abbrev xl (w : xW) : Launch := w.1
abbrev xD (w : xW) : va_G := w.2.1
abbrev xT (w : xW) : Nat → ClassId := w.2.2.1
abbrev xB (w : xW) : Nat := w.2.2.2.1
abbrev xsK (w : xW) : Nat → Nat := w.2.2.2.2.1
abbrev xsV (w : xW) : Nat → Nat := w.2.2.2.2.2
/-- 0 int, 1 long, 2 byte, 3 boolean, 4 short, 5 Tray, 6 Fen, 7 Person, 8 Tin, 9 Step, 10 Kept -/
abbrev xTy : List FieldType := [.int, .long, .byte, .boolean, .short, .object "TinFen$Tray", .object "TinFen$Fen", .object "TinFen$Person", .object "TinFen$Tin", .object "TinFen$Step", .object "TinFen$Kept"]
abbrev xtys (w : xW) : List (ClassId × FieldType) := [(xT w 0, .int), (xT w 1, .long), (xT w 2, .byte), (xT w 3, .boolean), (xT w 4, .short), (xT w 5, .object "TinFen$Tray"), (xT w 6, .object "TinFen$Fen"), (xT w 7, .object "TinFen$Person"), (xT w 8, .object "TinFen$Tin"), (xT w 9, .object "TinFen$Step"), (xT w 10, .object "TinFen$Kept")]
abbrev xA (w : xW) : Nat → Prop := fun q => xB w ≤ q
/-- a value, its name turned into an address -/
def xv (ρ : Nat → Nat) : Value → Value
  | .ref a => .ref (ρ a)
  | v => v
def xq (ρ : Nat → Nat) (q : Nat × Value) : Nat × Value := (q.1, xv ρ q.2)
def xar (ρ : Nat → Nat) (a : vp_A) : vp_A := (a.1, match a.2 with
  | .inr (.inr (.inr (.inr f))) => .inr (.inr (.inr (.inr fun i => (f i).map ρ)))
  | c => c)
def xe (w : xW) (ρ : Nat → Nat) : xE → va_E
  | .inl (k, a) => .inl (xT w k, xar ρ a)
  | .inr (ci, fs) => .inr (ci, fs.map (xv ρ))
/-- names that no new cell takes: block 2 -/
def xpin (n : Nat) : Prop := n / 32 = 2
def xok (h : xH) : Value → Prop
  | .ref n => h n ≠ none ∨ xpin n
  | _ => True
def xcl (h : xH) : xE → Prop
  | .inl (_, (_, .inr (.inr (.inr (.inr f))))) => ∀ i y, f i = some y → xok h (.ref y)
  | .inl _ => True
  | .inr (_, fs) => ∀ v ∈ fs, xok h v
/-- the concrete heap H is as the abstract heap h says, by the addresses ρ of its names -/
def xP (w : xW) (ρ : Nat → Nat) (h : xH) (H : Heap) : Prop :=
  (∀ n e, h n = some e → va_at (xD w) xCl (ρ n, xe w ρ e) H ∧ xB w ≤ ρ n ∧ xcl h e) ∧ (∀ n m, h n ≠ none → h m ≠ none → ρ n = ρ m → n = m) ∧ (∀ k, k < 2 → ρ (64 + k) = xsK w k ∧ ρ (72 + k) = xsV w k)
/-- words that aren't in the lists: they stay under warmer tables -/
def xst : Cond → Bool
  | .fieldLinkNest .. => true
  | .methodLinkNest .. => true
  | .castable .. => true
  | .declares .. => true
  | .privateMethod .. => true
  | _ => false
def xNw : List Cond := lw_tbl.filter xst
theorem xst_tab {d : Cond} (h : xst d = true) : d.onTables = true := by
  cases d <;> first | rfl | simp [xst] at h
theorem xst_same {d : Cond} (h : xst d = true) {u U : State} (e : u.vm = U.vm) (hZ : va_Nw d u) : va_Nw d U := va_Nw.same (xst_tab h) e hZ
theorem xst_warm {d : Cond} (h : xst d = true) {s U : State} (hW : s.WarmedH U.vm) (hZ : va_Nw d s) : va_Nw d U := by
  cases d <;> first
    | exact va_Nw.warmF hW hZ
    | exact va_Nw.warmM hW hZ
    | exact va_Nw.warmC hW hZ
    | exact va_Nw.warmD hW hZ
    | exact va_tabs rfl (rfl : (s.setVm U.vm).vm = U.vm) (by rw [Cond.privateMethod_setVm hW.alike]; exact hZ)
    | simp [xst] at h
/-- the array classes over objects that anewarray asks for -/
abbrev xAO : List String := ["TinFen$Tray", "TinFen$Fen", "TinFen$Person", "TinFen$Tin", "TinFen$Step", "TinFen$Kept"]
/-- the constant texts: the words, the signs -/
abbrev xLen : List Nat := [101, 4]
abbrev xByt : List (List Int32) := [[32, 111, 100, 100, 115, 32, 116, 114, 97, 105, 116, 32, 112, 101, 114, 115, 111, 110, 32, 108, 97, 110, 101, 32, 116, 105, 110, 32, 119, 111, 114, 116, 104, 32, 105, 115, 32, 111, 102, 32, 111, 110, 32, 108, 101, 97, 100, 32, 112, 97, 115, 115, 32, 98, 105, 116, 101, 32, 108, 101, 97, 114, 110, 32, 108, 111, 115, 101, 32, 97, 110, 121, 32, 119, 104, 101, 110, 32, 108, 111, 111, 112, 32, 115, 116, 111, 112, 32, 101, 110, 100, 32, 103, 111, 116, 32, 103, 111, 110, 101, 32], [59, 60, 62, 61]]
abbrev xWords : String := " odds trait person lane tin worth is of on lead pass bite learn lose any when loop stop end got gone "
abbrev xSigns : String := ";<>="
/-- what is there beside our cells, and stays -/
def xEnv (w : xW) (U : State) (H : Heap) : Prop :=
  (xl w).stackTraces = false ∧ xB w ≤ H.size ∧ va_K (xD w) xCl (xtys w) U ∧ (∀ d ∈ xNw, va_Nw d U) ∧ (∀ C ∈ xAO, va_AO C U) ∧ va_Nc "java/lang/ArrayIndexOutOfBoundsException" "java/lang/NullPointerException" U ∧
  vx_Zq Bundle.tN "UNASSIGNED_STACK" Bundle.steD (xA w) U H ∧ vx_Zq Bundle.tN "SUPPRESSED_SENTINEL" Bundle.listD (xA w) U H ∧
  vk_S 2 xLen xByt (xsK w) (xsV w) (xA w) U H ∧ vk_R RX2 3 xWords (xsK w 0) U ∧ vk_R RX2 5 xSigns (xsK w 1) U ∧ vk_R RX1 94 xWords (xsK w 0) U ∧
  va_Z "java/lang/String" "COMPACT_STRINGS" "Z" (.int 1) (xA w) U H ∧ va_Zq "jdk/internal/util/Preconditions" "SIOOBE_FORMATTER" "Ljava/util/function/BiFunction;" (xA w) U H
theorem xEnv.same {w : xW} {u U : State} {H : Heap} (e : u.vm = U.vm) (h : xEnv w u H) : xEnv w U H := by
  obtain ⟨h1, h2, h3, h4, h5, h6, h7, h8, h9, h10, h11, h12, h13, h14⟩ := h
  have ha : u.vm.Alike U.vm := by rw [e]; exact Vm.Alike.refl _
  exact ⟨h1, h2, va_K.moved ha h3, fun d hd => xst_same (List.mem_filter.mp hd).2 e (h4 d hd), fun C hC => (h5 C hC).moved ha, h6.moved ha, h7.moved ha, h8.moved ha, h9.moved ha, h10.same e.symm, h11.same e.symm, h12.same e.symm, h13.moved ha, h14.moved ha⟩
theorem xEnv.warm {w : xW} {s U : State} {H : Heap} (hW : s.WarmedH U.vm) (h : xEnv w s H) : xEnv w U H := by
  obtain ⟨h1, h2, h3, h4, h5, h6, h7, h8, h9, h10, h11, h12, h13, h14⟩ := h
  have ha : s.vm.Alike U.vm := hW.alike
  exact ⟨h1, h2, va_K.moved ha h3, fun d hd => xst_warm (List.mem_filter.mp hd).2 hW (h4 d hd), fun C hC => (h5 C hC).moved ha, h6.moved ha, h7.moved ha, h8.moved ha, h9.moved ha, h10.warm hW, h11.warm hW, h12.warm hW, h13.moved ha, h14.moved ha⟩
theorem xEnv.kept {w : xW} {U : State} {H H1 : Heap} (h : xEnv w U H) (hz : H.size ≤ H1.size) (hq : ∀ a : Nat, a < H.size → ¬ xA w a → H1[a]? = H[a]?) : xEnv w U H1 := by
  obtain ⟨h1, h2, h3, h4, h5, h6, h7, h8, h9, h10, h11, h12, h13, h14⟩ := h
  exact ⟨h1, Nat.le_trans h2 hz, h3, h4, h5, h6, h7.kept hq, h8.kept hq, h9.kept hq, h10, h11, h12, h13.kept hq, h14.kept hq⟩
