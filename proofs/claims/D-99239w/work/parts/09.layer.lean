set_option maxRecDepth 100000
/-- the classes, by number -/
abbrev nd_cl : List vw_C := [(RX1, TX1, 13), (RX2, TX2, 5), (RX3, TX3, 7), (RJ2, TJ2, 3), (RX4, TX4, 3), (RX5, TX5, 1), (RX6, TX6, 1), (RX7, TX7, 43), (RJ3, TJ3, 5), (RJ6, TJ6, 6), (RX8, TX8, 10), (RX9, TX9, 8), (RX10, TX10, 1), (RX11, TX11, 1), (RX13, TX13, 2), (RX14, TX14, 2), (RX15, TX15, 2), (RX16, TX16, 1), (RX17, TX17, 3), (RX18, TX18, 2), (RX19, TX19, 2), (RJ18, TJ18, 6), (RJ19, TJ19, 6), (RX22, TX22, 6), (RX24, TX24, 5), (RJ22, TJ22, 6), (RJ23, TJ23, 6), (RJ24, TJ24, 6), (RX27, TX27, 8), (RX28, TX28, 5), (RX29, TX29, 7), (RX30, TX30, 9), (RX31, TX31, 9), (RX32, TX32, 5), (RX33, TX33, 6), (RX34, TX34, 9), (RX35, TX35, 5), (RX36, TX36, 7), (RX37, TX37, 6), (RX38, TX38, 8), (RX39, TX39, 7), (RX40, TX40, 3), (RJ27, TJ27, 4)]
/-- the kinds of elements of arrays, by number -/
abbrev nd_ty : List FieldType := [.int, .long, .byte, .short, .boolean, .array .int, .object "NapkinDeeds$Look", .object "NapkinDeeds$Image", .object "NapkinDeeds$Tray", .object "java/lang/String", .object "java/lang/Object"]
/-- the claim's String constants: class, entry, text, bytes -/
def nd_str : List (String × Nat × String × List Nat) := [("NapkinDeeds$Reader", 11, "wide", [119, 105, 100, 101]), ("NapkinDeeds$Reader", 13, "high", [104, 105, 103, 104]), ("NapkinDeeds$Reader", 15, "folds", [102, 111, 108, 100, 115]), ("NapkinDeeds$Reader", 17, "top", [116, 111, 112]), ("NapkinDeeds$Reader", 19, "under", [117, 110, 100, 101, 114]), ("NapkinDeeds$Reader", 21, "hidden", [104, 105, 100, 100, 101, 110]), ("NapkinDeeds$Reader", 23, "guest", [103, 117, 101, 115, 116]), ("NapkinDeeds$Reader", 25, "want", [119, 97, 110, 116]), ("NapkinDeeds$Reader", 70, ";:+-*()[]=<>", [59, 58, 43, 45, 42, 40, 41, 91, 93, 61, 60, 62]), ("NapkinDeeds$Reader", 196, "cell", [99, 101, 108, 108]), ("NapkinDeeds$Reader", 217, "back", [98, 97, 99, 107]), ("NapkinDeeds$Reader", 230, "worth", [119, 111, 114, 116, 104]), ("NapkinDeeds$Reader", 238, "holds", [104, 111, 108, 100, 115]), ("NapkinDeeds$Reader", 162, "not", [110, 111, 116]), ("NapkinDeeds$Reader", 181, "and", [97, 110, 100]), ("NapkinDeeds$Reader", 191, "or", [111, 114]), ("NapkinDeeds$Reader", 243, "likes", [108, 105, 107, 101, 115]), ("NapkinDeedsModel", 223, "cell", [99, 101, 108, 108]), ("NapkinDeedsModel", 217, "back", [98, 97, 99, 107]), ("NapkinDeedsModel", 202, "guest", [103, 117, 101, 115, 116]), ("NapkinDeedsModel", 231, "worth", [119, 111, 114, 116, 104]), ("NapkinDeedsModel", 190, "wide", [119, 105, 100, 101]), ("NapkinDeedsModel", 192, "high", [104, 105, 103, 104]), ("NapkinDeedsModel", 194, "folds", [102, 111, 108, 100, 115]), ("NapkinDeedsModel", 196, "top", [116, 111, 112]), ("NapkinDeedsModel", 198, "under", [117, 110, 100, 101, 114]), ("NapkinDeedsModel", 200, "hidden", [104, 105, 100, 100, 101, 110]), ("NapkinDeedsModel", 204, "want", [119, 97, 110, 116]), ("NapkinDeedsModel", 237, "holds", [104, 111, 108, 100, 115]), ("NapkinDeedsModel", 170, "not", [110, 111, 116]), ("NapkinDeedsModel", 168, "and", [97, 110, 100]), ("NapkinDeedsModel", 160, "or", [111, 114]), ("NapkinDeedsModel", 239, "likes", [108, 105, 107, 101, 115])]
/-- statics that are read: class, name, type, abstract value -/
def nd_sta : List (String × String × String × Value) := [("java/lang/String", "COMPACT_STRINGS", "Z", .int 1), ("jdk/internal/util/Preconditions", "SIOOBE_FORMATTER", "Ljava/util/function/BiFunction;", .float 200), ("java/util/ArrayList", "DEFAULTCAPACITY_EMPTY_ELEMENTDATA", "[Ljava/lang/Object;", .float 201), ("java/lang/Throwable", "UNASSIGNED_STACK", "[Ljava/lang/StackTraceElement;", .float 202), ("java/lang/Throwable", "SUPPRESSED_SENTINEL", "Ljava/util/List;", .float 203), ("java/lang/Integer$IntegerCache", "cache", "[Ljava/lang/Integer;", .float 204), ("java/lang/Integer$IntegerCache", "high", "I", .int 127)]
abbrev nX1 : Nat := 0
abbrev nX2 : Nat := 1
abbrev nX3 : Nat := 2
abbrev nJ2 : Nat := 3
abbrev nX4 : Nat := 4
abbrev nX5 : Nat := 5
abbrev nX6 : Nat := 6
abbrev nX7 : Nat := 7
abbrev nJ3 : Nat := 8
abbrev nJ6 : Nat := 9
abbrev nX8 : Nat := 10
abbrev nX9 : Nat := 11
abbrev nX10 : Nat := 12
abbrev nX11 : Nat := 13
abbrev nX13 : Nat := 14
abbrev nX14 : Nat := 15
abbrev nX15 : Nat := 16
abbrev nX16 : Nat := 17
abbrev nX17 : Nat := 18
abbrev nX18 : Nat := 19
abbrev nX19 : Nat := 20
abbrev nJ18 : Nat := 21
abbrev nJ19 : Nat := 22
abbrev nX22 : Nat := 23
abbrev nX24 : Nat := 24
abbrev nJ22 : Nat := 25
abbrev nJ23 : Nat := 26
abbrev nJ24 : Nat := 27
abbrev nX27 : Nat := 28
abbrev nX28 : Nat := 29
abbrev nX29 : Nat := 30
abbrev nX30 : Nat := 31
abbrev nX31 : Nat := 32
abbrev nX32 : Nat := 33
abbrev nX33 : Nat := 34
abbrev nX34 : Nat := 35
abbrev nX35 : Nat := 36
abbrev nX36 : Nat := 37
abbrev nX37 : Nat := 38
abbrev nX38 : Nat := 39
abbrev nX39 : Nat := 40
abbrev nX40 : Nat := 41
abbrev nJ27 : Nat := 42
/-! ===== THE ABSTRACT LAYER (nd_): one abstract heap of all cells made since the law's entry ===== -/
abbrev nd_A : Type := (Nat → Int32) ⊕ (Nat → Int64) ⊕ (Nat → Value)
/-- a cell: an array (place of its type in nd_ty, length, contents) or an object (place of its class in nd_cl, fields) -/
abbrev nd_C : Type := (Nat × Nat × nd_A) ⊕ (Nat × List Value)
abbrev nd_H : Type := List nd_C
/-- launch; class numbers and slots; array classes; the law's entry; foreign values -/
abbrev nd_G : Type := Launch × va_G × (Nat → ClassId) × State × (Nat → Value)
abbrev nd_l (g : nd_G) : Launch := g.1
abbrev nd_D (g : nd_G) : va_G := g.2.1
abbrev nd_tc (g : nd_G) : Nat → ClassId := g.2.2.1
abbrev nd_s (g : nd_G) : State := g.2.2.2.1
abbrev nd_fv (g : nd_G) : Nat → Value := g.2.2.2.2
def nd_z (g : nd_G) : Nat := (nd_s g).heap.size
/-- the machine's value of an abstract one: references by z, foreign values by their numbers -/
def nd_v (g : nd_G) : Value → Value
  | .ref k => .ref (nd_z g + k)
  | .float u => nd_fv g u.toNat
  | v => v
def nd_pa (g : nd_G) (ty n : Nat) (a : nd_A) : Cell := match a with
  | .inl f => arrV (nd_tc g ty) n (fun j => .int (f j))
  | .inr (.inl f) => arrV (nd_tc g ty) n (fun j => .long (f j))
  | .inr (.inr f) => arrV (nd_tc g ty) n (fun j => nd_v g (f j))
def nd_at (g : nd_G) (k : Nat) (c : nd_C) (H : Heap) : Prop := match c with
  | .inl x => H[nd_z g + k]? = some (nd_pa g x.1 x.2.1 x.2.2)
  | .inr o => ∀ r : vw_C, nd_cl[o.1]? = some r → t_OB (nd_z g + k) ((nd_D g).1 o.1) r.2.2 ((nd_D g).2 o.1) H (vp_V (o.2.map (nd_v g)))
def nd_R (g : nd_G) (h : nd_H) (H : Heap) : Prop := H.size = nd_z g + h.length ∧ (∀ q : Nat, q < nd_z g → H[q]? = (nd_s g).heap[q]?) ∧ ∀ (k : Nat) (c : nd_C), h[k]? = some c → nd_at g k c H
def nd_isN (w : Cond) : Bool := match w with
  | .fieldLinkNest .. => true
  | .methodLinkNest .. => true
  | _ => false
def nd_nest : List Cond := lw_tbl.filter nd_isN
/-- foreign value k; its address -/
abbrev nd_f (k : Nat) : Value := .float (UInt32.ofNat k)
def nd_sa (g : nd_G) (k : Nat) : Nat := match nd_fv g k with
  | .ref a => a
  | _ => 0
def nd_SR (g : nd_G) (U : State) : Prop := ∀ (i : Nat) (r : String × Nat × String × List Nat), nd_str[i]? = some r → vk_R r.1 r.2.1 r.2.2.1 (nd_sa g i) U
def nd_tys (g : nd_G) : List (ClassId × FieldType) := nd_ty.mapIdx (fun k t => (nd_tc g k, t))
/-- the words of the default method that Two's sums call -/
def nd_ml : Cond := .methodLink "NapkinDeeds$Two" 26 ⟨"NapkinDeeds$Two", "kept", "(J)I"⟩
def nd_sm : Cond := .sameMethod "NapkinDeeds$Two" "NapkinDeeds$Sum" "kept" "(J)I"
def nd_ld (C : String) : Cond := .landsInDefault C ⟨"NapkinDeeds$Two", "kept", "(J)I"⟩ ⟨"NapkinDeeds$Sum", "kept", "(J)I"⟩
def nd_DW (U : State) : Prop := va_Nw nd_ml U ∧ va_Nw nd_sm U ∧ va_Nw (nd_ld "NapkinDeeds$Times") U ∧ va_Nw (nd_ld "NapkinDeeds$Plus") U ∧ va_Nw (nd_ld "NapkinDeeds$Minus") U
theorem nd_ld_vm {C : String} {u U : State} (e : u.vm = U.vm) (h : va_Nw (nd_ld C) u) : va_Nw (nd_ld C) U := by
  unfold va_Nw at h ⊢
  rw [← h]
  simp only [nd_ld, Cond.before, Cond.holds, Cond.value, State.methodFound?, State.methodNamed?, e]
theorem nd_ld_warm {C : String} {s U : State} (hW : s.WarmedH U.vm) (h : va_Nw (nd_ld C) s) : va_Nw (nd_ld C) U :=
  nd_ld_vm (rfl : (s.setVm U.vm).vm = U.vm) ((Cond.landsInDefault_setVm (args := #[]) (args' := #[]) hW.alike (State.methodFound?_setVm hW.alike _ _ _)).trans h)
theorem nd_DW.warm {s U : State} (hW : s.WarmedH U.vm) (h : nd_DW s) : nd_DW U :=
  ⟨word_at hW (good_of_word rfl) h.1, word_at hW (good_of_word rfl) h.2.1, nd_ld_warm hW h.2.2.1, nd_ld_warm hW h.2.2.2.1, nd_ld_warm hW h.2.2.2.2⟩
theorem nd_DW.same {u U : State} (e : u.vm = U.vm) (h : nd_DW u) : nd_DW U :=
  ⟨va_Nw.same rfl e h.1, va_Nw.same rfl e h.2.1, nd_ld_vm e h.2.2.1, nd_ld_vm e h.2.2.2.1, nd_ld_vm e h.2.2.2.2⟩
def nd_Amb (g : nd_G) (U : State) : Prop := va_K (nd_D g) nd_cl (nd_tys g) U ∧ (∀ w ∈ nd_nest, va_Nw w U) ∧ (nd_s g).vm.Alike U.vm ∧ nd_SR g U ∧ nd_DW U
theorem nd_Amb.warm {g : nd_G} {s U : State} (hW : s.WarmedH U.vm) (h : nd_Amb g s) : nd_Amb g U := by
  refine ⟨va_K.moved hW.alike h.1, fun w hw => ?_, h.2.2.1.trans hW.alike, fun i r hr => vk_R.warm hW (h.2.2.2.1 i r hr), h.2.2.2.2.warm hW⟩
  have h1 := h.2.1 w hw
  have h2 : nd_isN w = true := (List.mem_filter.mp hw).2
  cases w with
  | fieldLinkNest a b c d e f => exact va_Nw.warmF hW h1
  | methodLinkNest a b c d => exact va_Nw.warmM hW h1
  | _ => exact absurd (show false = true from h2) (by decide)
/-- foreign objects and statics, never written -/
def nd_FO (g : nd_G) : Prop :=
  (∀ (i : Nat) (r : String × Nat × String × List Nat), nd_str[i]? = some r → nd_fv g i = .ref (nd_sa g i) ∧ nd_fv g (100 + i) = .ref (nd_sa g (100 + i)) ∧ va_O "java/lang/String" (nd_sa g i) (fun q => nd_z g ≤ q) (nd_s g) (nd_s g).heap ∧ va_OF "java/lang/String" "coder" "B" (.int 0) (nd_sa g i) (fun q => nd_z g ≤ q) (nd_s g) (nd_s g).heap ∧ va_OF "java/lang/String" "value" "[B" (.ref (nd_sa g (100 + i))) (nd_sa g i) (fun q => nd_z g ≤ q) (nd_s g) (nd_s g).heap ∧ va_T .byte (nd_sa g (100 + i)) r.2.2.2.length (fun j => .int (nI (r.2.2.2.getD j 0))) (fun q => nd_z g ≤ q) (nd_s g) (nd_s g).heap) ∧
  (∀ r ∈ nd_sta, va_Z r.1 r.2.1 r.2.2.1 (nd_v g r.2.2.2) (fun q => nd_z g ≤ q) (nd_s g) (nd_s g).heap) ∧
  (nd_fv g 201 = .ref (nd_sa g 201) ∧ va_T (.object "java/lang/Object") (nd_sa g 201) 0 (fun _ => .null) (fun q => nd_z g ≤ q) (nd_s g) (nd_s g).heap) ∧
  (nd_fv g 204 = .ref (nd_sa g 204) ∧ va_T (.object "java/lang/Integer") (nd_sa g 204) 256 (fun j => nd_fv g (1000 + j)) (fun q => nd_z g ≤ q) (nd_s g) (nd_s g).heap) ∧
  (∀ j, j < 256 → nd_fv g (1000 + j) = .ref (nd_sa g (1000 + j)) ∧ va_O "java/lang/Integer" (nd_sa g (1000 + j)) (fun q => nd_z g ≤ q) (nd_s g) (nd_s g).heap ∧ va_OF "java/lang/Integer" "value" "I" (.int (nI j - nI 128)) (nd_sa g (1000 + j)) (fun q => nd_z g ≤ q) (nd_s g) (nd_s g).heap)
/-- what the law's entry gives, once for all -/
def nd_OK (g : nd_G) : Prop := (nd_l g).stackTraces = false ∧ (∀ k, nd_fv g k = .null ∨ ∃ a, a < nd_z g ∧ nd_fv g k = .ref a) ∧ (∃ b : Addr, (∀ w ∈ lw_tbl, w.before #[Value.ref b] (nd_s g) = true) ∧ (Jvm.Cond.and given_1 narrow_1).before #[Value.ref b] (nd_s g) = true) ∧ nd_FO g
/-- a method: name, code, locals, answer, handlers -/
abbrev nd_Mt : Type := MethodName × ByteArray × Nat × Option FieldType × Option (List (Nat × Nat × Nat × Nat))
def nd_ws (mm : nd_Mt) : List Cond := match mm.2.2.2.2 with
  | none => ws_ mm.1 mm.2.1 mm.2.2.1 mm.2.2.2.1
  | some hh => wsW_ mm.1 mm.2.1 mm.2.2.1 mm.2.2.2.1 hh
def nd_rm (d mc ms : Nat) : Room := { frames := d + 20, cells := mc, slots := ms, locals := 64 * d + 10300 }
/-- an outcome: returned (a value, or none), or thrown (class, object) -/
abbrev nd_Rs : Type := Option Value ⊕ (String × Nat)
abbrev nd_K : Type := nd_Rs → nd_H → Prop
def nd_fr (g : nd_G) : Addr → Prop := fun q => nd_z g ≤ q
def nd_Qc (g : nd_G) (K : nd_K) : Array Value → State → Outcome → State → Prop := fun _ st o t => (∃ (v : Option Value) (h : nd_H), o = .returned (v.map (nd_v g)) ∧ K (.inl v) h ∧ nd_R g h t.heap) ∧ va_F (nd_fr g) st t
def nd_XC (g : nd_G) (K : nd_K) : String → Addr → State → State → Prop := fun E q st t => (∃ (k : Nat) (h : nd_H), q = nd_z g + k ∧ K (.inr (E, k)) h ∧ nd_R g h t.heap) ∧ va_F (nd_fr g) st t
/-- THE CONTRACT of a method at given arguments and heap, goal first -/
def nd_M (g : nd_G) (mm : nd_Mt) (d mc ms : Nat) (args : List Value) (h : nd_H) (K : nd_K) : Prop :=
  vx_Met (nd_l g) mm.1 (nd_ws mm) (nd_rm d mc ms) (va_Pc (args.map (nd_v g)) (fun U => nd_R g h U.heap ∧ nd_Amb g U)) (nd_Qc g K) (nd_XC g K) mc ms (nd_fr g)
/-- locals by places -/
def nd_L (g : nd_G) (ls : Array Slot) (n : Nat) (lv : List (Option Value)) : Prop := ls.size = n ∧ lv_wf ls ∧ ∀ (i : Nat) (v : Value), lv[i]? = some (some v) → ls[i]? = some (.val (nd_v g v))
/-- machine, surroundings, state at entry, method's number, arguments, frames below, method, code -/
abbrev nd_X : Type := Program × Env × State × MethodId × Array Value × List Frame × Method × Code
def nd_Cx (g : nd_G) (mm : nd_Mt) (X : nd_X) : Prop :=
  X.1.tables.exec = Jvm.exec ∧ X.2.2.2.2.2.2.2.code = mm.2.1 ∧ X.2.2.2.2.2.2.1.sig.returnType = mm.2.2.2.1 ∧ X.2.2.2.2.2.2.2.maxLocals = mm.2.2.1 ∧ X.2.2.1.vm.findClass mm.1.cls = some X.2.2.2.1.cls ∧
  (∀ w ∈ lw_all, w.before X.2.2.2.2.1 X.2.2.1 = true) ∧ X.2.2.2.2.2.2.1.locks = false ∧ nd_Amb g X.2.2.1 ∧ nd_OK g ∧ nd_z g ≤ X.2.2.1.heap.size ∧ X.2.2.2.2.2.2.1.name = mm.1.name ∧
  (match mm.2.2.2.2 with
    | none => ∀ x ∈ X.2.2.2.2.2.2.2.exceptionTable.toList, False
    | some hh => X.2.2.2.2.2.2.2.exceptionTable.toList = tableOf hh)
/-- THE BODY at a point: locals, stack and heap are abstract; cs, ss: cells and slots used so far -/
def nd_W (g : nd_G) (mm : nd_Mt) (d mc ms : Nat) (K : nd_K) (X : nd_X) (pc : Nat) (lv : List (Option Value)) (st : List Value) (h : nd_H) (cs ss : Nat) : Prop :=
  ∀ (H : Heap) (ls : Array Slot) (locs : List Loc), nd_L g ls mm.2.2.1 lv → nd_R g h H → va_S (nd_fr g) X.2.2.1.heap H locs →
    W X.1 (nd_l g) X.2.1 (nd_rm d mc ms) X.2.2.1 X.2.2.2.1 X.2.2.2.2.1 X.2.2.2.2.2.1 X.2.2.2.2.2.2.1 X.2.2.2.2.2.2.2 H locs cs ss (vx_MQ X.2.2.2.2.2.1 (nd_Qc g K) (nd_XC g K) X.2.2.2.2.1 X.2.2.1 mc ms (nd_fr g)) (F0 X.2.2.2.1 pc ls (st.map (nd_v g)))
/-- a thrown object under way at pc -/
def nd_T (g : nd_G) (mm : nd_Mt) (d mc ms : Nat) (K : nd_K) (X : nd_X) (pc : Nat) (lv : List (Option Value)) (E : String) (k : Nat) (h : nd_H) (cs ss : Nat) : Prop :=
  ∀ (H : Heap) (ls : Array Slot) (locs : List Loc) (rest : List Value) (ce : Cell), nd_L g ls mm.2.2.1 lv → nd_R g h H → va_S (nd_fr g) X.2.2.1.heap H locs → H[nd_z g + k]? = some ce → ce.vm = .none → X.2.2.1.vm.findClass E = some ce.cls →
    vx_W X.1 (nd_l g) X.2.1 (nd_rm d mc ms) X.2.2.1 X.2.2.2.1 X.2.2.2.2.1 X.2.2.2.2.2.1 X.2.2.2.2.2.2.1 X.2.2.2.2.2.2.2 H locs cs ss (vx_MQ X.2.2.2.2.2.1 (nd_Qc g K) (nd_XC g K) X.2.2.2.2.1 X.2.2.1 mc ms (nd_fr g)) (F0 X.2.2.2.1 pc ls rest) (nd_z g + k)

/-- values of two slots -/
def nd_c2 (v : Value) : Bool := match v with
  | .long _ => true
  | .double _ => true
  | _ => false
/-- reference-like values -/
def nd_rf (v : Value) : Bool := match v with
  | .ref _ => true
  | .null => true
  | .float _ => true
  | _ => false
theorem nd_rf_v {g : nd_G} (hg : nd_OK g) {v : Value} (h : nd_rf v = true) : nd_v g v = .null ∨ ∃ a, nd_v g v = .ref a := by
  cases v with
  | ref a => exact Or.inr ⟨_, rfl⟩
  | null => exact Or.inl rfl
  | float u =>
    rcases hg.2.1 u.toNat with e | ⟨a, -, e⟩
    · exact Or.inl e
    · exact Or.inr ⟨a, e⟩
  | _ => exact absurd h (by simp [nd_rf])
theorem nd_c1 {g : nd_G} (hg : nd_OK g) {v : Value} (h : nd_c2 v = false) : (nd_v g v).category = 1 := by
  cases v with
  | float u =>
    rcases hg.2.1 u.toNat with e | ⟨a, -, e⟩
    · show (nd_fv g u.toNat).category = 1
      rw [e]; rfl
    · show (nd_fv g u.toNat).category = 1
      rw [e]; rfl
  | long x => exact absurd h (by simp [nd_c2])
  | double x => exact absurd h (by simp [nd_c2])
  | _ => rfl
theorem nd_c2' {g : nd_G} {v : Value} (h : nd_c2 v = true) : (nd_v g v).category = 2 := by
  cases v with
  | long x => rfl
  | double x => rfl
  | _ => exact absurd h (by simp [nd_c2])
def nd_as (g : nd_G) (lv : List (Option Value)) : List (Nat × Value) := lv.zipIdx.filterMap (fun p => p.1.map (fun v => (p.2, nd_v g v)))
theorem nd_as_mem {g : nd_G} {lv : List (Option Value)} {j : Nat} {w : Value} : (j, w) ∈ nd_as g lv ↔ ∃ v, lv[j]? = some (some v) ∧ w = nd_v g v := by
  unfold nd_as
  rw [List.mem_filterMap]
  constructor
  · rintro ⟨⟨o, i⟩, h1, h2⟩
    cases o with
    | none => simp at h2
    | some v =>
      simp at h2
      obtain ⟨rfl, rfl⟩ := h2
      exact ⟨v, List.mk_mem_zipIdx_iff_getElem?.mp h1, rfl⟩
  · rintro ⟨v, h1, rfl⟩
    exact ⟨(some v, j), List.mk_mem_zipIdx_iff_getElem?.mpr h1, rfl⟩
theorem nd_L.has {g : nd_G} {ls : Array Slot} {n : Nat} {lv : List (Option Value)} (h : nd_L g ls n lv) : lv_has ls n (nd_as g lv) :=
  ⟨h.1, h.2.1, fun q hq => by
    obtain ⟨v, h1, h2⟩ := nd_as_mem.mp (show (q.1, q.2) ∈ nd_as g lv from hq)
    rw [h2]; exact h.2.2 _ _ h1⟩
def nd_kill (lv : List (Option Value)) (i : Nat) : List (Option Value) := match i with
  | 0 => lv
  | j + 1 => match lv[j]? with
    | some (some v) => if nd_c2 v = true then lv.set j none else lv
    | _ => lv
def nd_st1 (lv : List (Option Value)) (i : Nat) (v : Value) : List (Option Value) := (nd_kill lv i).set i (some v)
def nd_st2 (lv : List (Option Value)) (i : Nat) (v : Value) : List (Option Value) := ((nd_kill lv i).set i (some v)).set (i + 1) none
theorem nd_kill_at {lv : List (Option Value)} {i j : Nat} {w : Value} (h : (nd_kill lv i)[j]? = some (some w)) : lv[j]? = some (some w) ∧ (j + 1 = i → nd_c2 w = false) := by
  cases i with
  | zero => exact ⟨h, fun e => by omega⟩
  | succ k =>
    unfold nd_kill at h
    cases hk : lv[k]? with
    | none =>
      simp only [hk] at h
      exact ⟨h, fun e => by have e2 : j = k := by omega
                            rw [e2, hk] at h; cases h⟩
    | some o =>
      cases o with
      | none =>
        simp only [hk] at h
        exact ⟨h, fun e => by have e2 : j = k := by omega
                              rw [e2, hk] at h; cases h⟩
      | some v =>
        simp only [hk] at h
        by_cases hc : nd_c2 v = true
        · rw [if_pos hc] at h
          by_cases e : j = k
          · subst e
            rw [List.getElem?_set] at h
            simp at h
          · rw [List.getElem?_set_ne (Ne.symm e)] at h
            exact ⟨h, fun q => by omega⟩
        · rw [if_neg hc] at h
          refine ⟨h, fun e => ?_⟩
          have e2 : j = k := by omega
          rw [e2, hk] at h
          cases h
          simpa using hc
theorem nd_set_at {lv : List (Option Value)} {i : Nat} {v w : Value} (h : (lv.set i (some v))[i]? = some (some w)) : w = v := by
  rw [List.getElem?_set] at h
  simp at h
  exact h.2.symm
theorem nd_L.of1 {g : nd_G} {n i : Nat} {v : Value} {lv : List (Option Value)} (hg : nd_OK g) {ls : Array Slot} (h : lv_has ls n ((i, nd_v g v) :: (nd_as g lv).filter (fun q => !(q.1 == i) && !(q.1 + 1 == i && q.2.category == 2)))) : nd_L g ls n (nd_st1 lv i v) := by
  refine ⟨h.1, h.2.1, fun j w hj => ?_⟩
  unfold nd_st1 at hj
  by_cases e : j = i
  · subst e
    rw [nd_set_at hj]
    exact h.2.2 _ List.mem_cons_self
  · rw [List.getElem?_set_ne (Ne.symm e)] at hj
    obtain ⟨h1, h2⟩ := nd_kill_at hj
    refine h.2.2 (j, nd_v g w) (List.mem_cons_of_mem _ (List.mem_filter.mpr ⟨nd_as_mem.mpr ⟨w, h1, rfl⟩, ?_⟩))
    by_cases e1 : j + 1 = i
    · simp [e, e1, nd_c1 hg (h2 e1)]
    · simp [e, e1]
theorem nd_L.of2 {g : nd_G} {n i : Nat} {v : Value} {lv : List (Option Value)} (hg : nd_OK g) {ls : Array Slot} (h : lv_has ls n ((i, nd_v g v) :: (nd_as g lv).filter (fun q => !(q.1 == i) && (!(q.1 == i + 1) && !(q.1 + 1 == i && q.2.category == 2))))) : nd_L g ls n (nd_st2 lv i v) := by
  refine ⟨h.1, h.2.1, fun j w hj => ?_⟩
  unfold nd_st2 at hj
  by_cases e9 : j = i + 1
  · subst e9
    rw [List.getElem?_set] at hj
    simp at hj
  rw [List.getElem?_set_ne (Ne.symm e9)] at hj
  by_cases e : j = i
  · subst e
    rw [nd_set_at hj]
    exact h.2.2 _ List.mem_cons_self
  · rw [List.getElem?_set_ne (Ne.symm e)] at hj
    obtain ⟨h1, h2⟩ := nd_kill_at hj
    refine h.2.2 (j, nd_v g w) (List.mem_cons_of_mem _ (List.mem_filter.mpr ⟨nd_as_mem.mpr ⟨w, h1, rfl⟩, ?_⟩))
    by_cases e1 : j + 1 = i
    · simp [e, e1, e9, nd_c1 hg (h2 e1)]
    · simp [e, e1, e9]
/-- arguments as locals -/
def nd_sl (vs : List Value) : List (Option Value) := match vs with
  | [] => []
  | v :: t => if nd_c2 v = true then some v :: none :: nd_sl t else some v :: nd_sl t
def nd_lv0 (vs : List Value) (n : Nat) : List (Option Value) := nd_sl vs ++ List.replicate (n - (nd_sl vs).length) none
theorem nd_sl_len {g : nd_G} (hg : nd_OK g) (vs : List Value) : (lg_sl (vs.map (nd_v g))).length = (nd_sl vs).length := by
  induction vs with
  | nil => rfl
  | cons v t ih =>
    have e : lg_sl ((v :: t).map (nd_v g)) = (if (nd_v g v).category = 2 then [.val (nd_v g v), .second] else [.val (nd_v g v)]) ++ lg_sl (t.map (nd_v g)) := rfl
    have e2 : nd_sl (v :: t) = if nd_c2 v = true then some v :: none :: nd_sl t else some v :: nd_sl t := by rw [nd_sl]
    rw [e, e2, List.length_append, ih]
    by_cases hc : nd_c2 v = true
    · rw [if_pos hc, if_pos (nd_c2' hc)]; simp; omega
    · rw [if_neg hc, if_neg (by rw [nd_c1 hg (by simpa using hc)]; decide)]; simp; omega
theorem nd_sl_at {g : nd_G} (hg : nd_OK g) (vs : List Value) : ∀ (off i : Nat) (v : Value), (nd_sl vs)[i]? = some (some v) → (off + i, nd_v g v) ∈ lv_args off (vs.map (nd_v g)) := by
  induction vs with
  | nil => intro off i v h; simp [nd_sl] at h
  | cons w t ih =>
    intro off i v h
    unfold nd_sl at h
    show (off + i, nd_v g v) ∈ (off, nd_v g w) :: lv_args (if (nd_v g w).category = 2 then off + 2 else off + 1) (t.map (nd_v g))
    by_cases hc : nd_c2 w = true
    · rw [if_pos hc] at h
      rw [if_pos (nd_c2' hc)]
      match i, h with
      | 0, h => simp at h; subst h; exact List.mem_cons_self
      | 1, h => simp at h
      | i + 2, h =>
        have h1 := ih (off + 2) i v (by simpa using h)
        rw [show off + (i + 2) = off + 2 + i by omega]
        exact List.mem_cons_of_mem _ h1
    · rw [if_neg hc] at h
      rw [if_neg (by rw [nd_c1 hg (by simpa using hc)]; decide)]
      match i, h with
      | 0, h => simp at h; subst h; exact List.mem_cons_self
      | i + 1, h =>
        have h1 := ih (off + 1) i v (by simpa using h)
        rw [show off + (i + 1) = off + 1 + i by omega]
        exact List.mem_cons_of_mem _ h1
theorem nd_L.entry {g : nd_G} (hg : nd_OK g) {vs : List Value} {n : Nat} (hn : (nd_sl vs).length ≤ n) : nd_L g ((lg_sl (vs.map (nd_v g)) ++ List.replicate (n - (lg_sl (vs.map (nd_v g))).length) Slot.unset).toArray) n (nd_lv0 vs n) := by
  have h := lv_entry (vs.map (nd_v g)) (n := n) (by rw [nd_sl_len hg]; exact hn)
  refine ⟨h.1, h.2.1, fun i v hi => ?_⟩
  unfold nd_lv0 at hi
  by_cases hlt : i < (nd_sl vs).length
  · rw [List.getElem?_append_left hlt] at hi
    have h1 := nd_sl_at hg vs 0 i v hi
    rw [Nat.zero_add] at h1
    exact h.2.2 _ h1
  · rw [List.getElem?_append_right (by omega), List.getElem?_replicate] at hi
    split at hi <;> simp at hi
/-- a cell is told by its own place of the heap -/
theorem nd_at.kept {g : nd_G} {k : Nat} {c : nd_C} {H H1 : Heap} (h : nd_at g k c H) (hq : H1[nd_z g + k]? = H[nd_z g + k]?) : nd_at g k c H1 := by
  cases c with
  | inl x => exact hq.trans h
  | inr o => exact fun r hr => (h r hr).kept hq
theorem nd_R.set {g : nd_G} {h : nd_H} {H H1 : Heap} {b : Nat} {c : nd_C} (hR : nd_R g h H) (z : H1.size = H.size) (oq : ∀ q : Nat, q ≠ nd_z g + b → H1[q]? = H[q]?) (hc : nd_at g b c H1) : nd_R g (h.set b c) H1 := by
  refine ⟨by rw [z, hR.1, List.length_set], fun q hq => (oq q (by omega)).trans (hR.2.1 q hq), fun k c2 hk => ?_⟩
  by_cases e : k = b
  · subst e
    rw [List.getElem?_set] at hk
    simp at hk
    rw [← hk.2]; exact hc
  · rw [List.getElem?_set_ne (Ne.symm e)] at hk
    exact (hR.2.2 k c2 hk).kept (oq _ (by omega))
theorem nd_R.push {g : nd_G} {h : nd_H} {H H1 : Heap} {c : nd_C} (hR : nd_R g h H) (z : H1.size = H.size + 1) (oq : ∀ q : Nat, q < H.size → H1[q]? = H[q]?) (hc : nd_at g h.length c H1) : nd_R g (h ++ [c]) H1 := by
  have hz := hR.1
  refine ⟨by rw [z, hz, List.length_append]; simp; omega, fun q hq => (oq q (by omega)).trans (hR.2.1 q hq), fun k c2 hk => ?_⟩
  by_cases e : k < h.length
  · rw [List.getElem?_append_left e] at hk
    exact (hR.2.2 k c2 hk).kept (oq _ (by omega))
  · rw [List.getElem?_append_right (by omega)] at hk
    have e2 : k - h.length = 0 := by
      have := (List.getElem?_eq_some_iff.mp hk).1
      simp at this; omega
    rw [e2] at hk
    have e3 : k = h.length := by omega
    simp at hk
    rw [← hk, e3]; exact hc
/-- cells of no interest -/
abbrev nd_J : nd_C := .inr (999, [])
theorem nd_R.junk {g : nd_G} {h : nd_H} {H H1 : Heap} (hR : nd_R g h H) (z : H.size ≤ H1.size) (oq : ∀ q : Nat, q < H.size → H1[q]? = H[q]?) : nd_R g (h ++ List.replicate (H1.size - H.size) nd_J) H1 := by
  have hz := hR.1
  refine ⟨by rw [List.length_append, List.length_replicate]; omega, fun q hq => (oq q (by omega)).trans (hR.2.1 q hq), fun k c2 hk => ?_⟩
  by_cases e : k < h.length
  · rw [List.getElem?_append_left e] at hk
    exact (hR.2.2 k c2 hk).kept (oq _ (by omega))
  · rw [List.getElem?_append_right (by omega), List.getElem?_replicate] at hk
    split at hk
    · cases hk
      intro r hr
      simp [nd_cl] at hr
    · cases hk
theorem nd_R.lt {g : nd_G} {h : nd_H} {H : Heap} (hR : nd_R g h H) {k : Nat} {c : nd_C} (hk : h[k]? = some c) : nd_z g + k < H.size := by
  rw [hR.1]
  have := (List.getElem?_eq_some_iff.mp hk).1
  omega
theorem nd_S.put {g : nd_G} {H0 H H1 : Heap} {locs : List Loc} {b k : Nat} (h : va_S (nd_fr g) H0 H locs) (z : H1.size = H.size) (oq : ∀ q : Nat, q ≠ nd_z g + b → H1[q]? = H[q]?) : va_S (nd_fr g) H0 H1 (locs ++ [⟨nd_z g + b, k⟩]) := h.put z oq (Nat.le_add_right _ _)
theorem nd_S.grow {g : nd_G} {H0 H H1 : Heap} {locs : List Loc} (h : va_S (nd_fr g) H0 H locs) (z : H.size ≤ H1.size) (oq : ∀ q : Nat, q < H.size → H1[q]? = H[q]?) : va_S (nd_fr g) H0 H1 locs :=
  ⟨Nat.le_trans h.1 z, fun q h1 h2 => (oq q (Nat.lt_of_lt_of_le h1 h.1)).trans (h.2.1 q h1 h2), h.2.2⟩
/-- from a contract to its body -/
theorem nd_enter {g : nd_G} {mm : nd_Mt} {d mc ms : Nat} {args : List Value} {h : nd_H} {K : nd_K} (hg : nd_OK g) (hy : plainName mm.1.cls = true) (hh : mm.2.2.2.2 = none) (hn : (nd_sl args).length ≤ mm.2.2.1) (body : ∀ X : nd_X, nd_Cx g mm X → nd_W g mm d mc ms K X 0 (nd_lv0 args mm.2.2.1) [] h 0 0) : nd_M g mm d mc ms args h K := by
  obtain ⟨y, cc, maxL, ret, hdl⟩ := mm
  dsimp only at hh hy hn
  subst hh
  refine vx_ofW (cc := cc) (maxL := maxL) (ret := ret) (ws' := lw_all) hy rfl ?_
  intro p e s m args9 below meth c s₁ B hml htab hv
  obtain ⟨rfl, hR, hA⟩ := hv
  have hts := atoms_spec (ws := ws_ y cc maxL ret) B.pre
  have hts : ∀ w ∈ lw_all, w.before _ s = true := fun w h => hts w (List.mem_cons_of_mem _ h)
  have k := body (p, e, s, m, (args.map (nd_v g)).toArray, below, meth, c) ⟨B.exec, B.bytes, B.returns, hml, findClass_of_methodNamed B.named, hts, B.notSynchronized, hA, hg, by show nd_z g ≤ s.heap.size; rw [hR.1]; omega, (name_of_methodNamed B.named B.method).1, htab⟩
  rw [lg_entry_eq]
  exact k s.heap _ [] (nd_L.entry hg hn) hR va_S.rf
theorem nd_enterH {g : nd_G} {mm : nd_Mt} {d mc ms : Nat} {args : List Value} {h : nd_H} {K : nd_K} (hh : List (Nat × Nat × Nat × Nat)) (hg : nd_OK g) (hy : plainName mm.1.cls = true) (hm : mm.2.2.2.2 = some hh) (hn : (nd_sl args).length ≤ mm.2.2.1) (body : ∀ X : nd_X, nd_Cx g mm X → nd_W g mm d mc ms K X 0 (nd_lv0 args mm.2.2.1) [] h 0 0) : nd_M g mm d mc ms args h K := by
  obtain ⟨y, cc, maxL, ret, hdl⟩ := mm
  dsimp only at hm hy hn
  subst hm
  refine vx_ofWH (cc := cc) (maxL := maxL) (ret := ret) (hh := hh) (ws' := lw_all) hy rfl ?_
  intro p e s m args9 below meth c s₁ B hml hv
  obtain ⟨rfl, hR, hA⟩ := hv
  have hts0 := atoms_spec (ws := wsW_ y cc maxL ret hh) B.pre
  have hts : ∀ w ∈ lw_all, w.before _ s = true := fun w h => hts0 w (List.mem_cons_of_mem _ h)
  have k := body (p, e, s, m, (args.map (nd_v g)).toArray, below, meth, c) ⟨B.exec, B.bytes, B.returns, hml, findClass_of_methodNamed B.named, hts, B.notSynchronized, hA, hg, by show nd_z g ≤ s.heap.size; rw [hR.1]; omega, (name_of_methodNamed B.named B.method).1, vx_table (x := y) B (hts0 _ List.mem_cons_self)⟩
  rw [lg_entry_eq]
  exact k s.heap _ [] (nd_L.entry hg hn) hR va_S.rf
section NDR
variable {g : nd_G} {mm : nd_Mt} {d mc ms : Nat} {K : nd_K} {X : nd_X} {pc : Nat} {lv : List (Option Value)} {st : List Value} {h : nd_H} {cs ss : Nat}
theorem nd_widen {cs2 ss2 : Nat} (h1 : cs ≤ cs2) (h2 : ss ≤ ss2) (k : nd_W g mm d mc ms K X pc lv st h cs2 ss2) : nd_W g mm d mc ms K X pc lv st h cs ss := fun H ls locs hl hR hS => W.widen h1 h2 (k H ls locs hl hR hS)
theorem nd_Twiden {cs2 ss2 k0 : Nat} {E : String} (h1 : cs ≤ cs2) (h2 : ss ≤ ss2) (k : nd_T g mm d mc ms K X pc lv E k0 h cs2 ss2) : nd_T g mm d mc ms K X pc lv E k0 h cs ss := fun H ls locs rest ce hl hR hS a b c => vx_widen h1 h2 (k H ls locs rest ce hl hR hS a b c)
theorem nd_ireturn (hC : nd_Cx g mm X) {ty : FieldType} {x : Int32} (hr : mm.2.2.2.1 = some ty) (hn : narrow ty (.int x) = .int x) (h1 : cs ≤ mc) (h2 : ss ≤ ms) (hd : decode mm.2.1 pc = .ok (.ireturn, 1)) (hK : K (.inl (some (.int x))) h) : nd_W g mm d mc ms K X pc lv [.int x] h cs ss := by
  intro H ls locs hl hR hS
  refine vx_ret (W.widen h1 h2 ?_)
  exact W.zret (v := x) hC.1 hC.2.1 (hC.2.2.1.trans hr) hn (fun t ht hW => ⟨⟨some (.int x), h, rfl, hK, by rw [ht]; exact hR⟩, hS.F ht⟩) hS.2.2 hd hC.2.2.2.2.2.2.1
theorem nd_lreturn (hC : nd_Cx g mm X) {x : Int64} (hr : mm.2.2.2.1 = some .long) (h1 : cs ≤ mc) (h2 : ss ≤ ms) (hd : decode mm.2.1 pc = .ok (.lreturn, 1)) (hK : K (.inl (some (.long x))) h) : nd_W g mm d mc ms K X pc lv [.long x] h cs ss := by
  intro H ls locs hl hR hS
  refine vx_ret (W.widen h1 h2 ?_)
  exact W.lret (v := x) hC.1 hC.2.1 (hC.2.2.1.trans hr) (fun t ht hW => ⟨⟨some (.long x), h, rfl, hK, by rw [ht]; exact hR⟩, hS.F ht⟩) hS.2.2 hd hC.2.2.2.2.2.2.1
theorem nd_return (hC : nd_Cx g mm X) (hr : mm.2.2.2.1 = none) (h1 : cs ≤ mc) (h2 : ss ≤ ms) (hd : decode mm.2.1 pc = .ok (.return_, 1)) (hK : K (.inl none) h) : nd_W g mm d mc ms K X pc lv [] h cs ss := by
  intro H ls locs hl hR hS
  refine vx_ret (W.widen h1 h2 ?_)
  exact W.vret hC.1 hC.2.1 (hC.2.2.1.trans hr) (fun t ht hW => ⟨⟨none, h, rfl, hK, by rw [ht]; exact hR⟩, hS.F ht⟩) hS.2.2 hd hC.2.2.2.2.2.2.1
theorem nd_areturn (hC : nd_Cx g mm X) {rt : FieldType} {v : Value} (hr : mm.2.2.2.1 = some rt) (hrt : (∃ n, rt = .object n) ∨ ∃ t, rt = .array t) (hv : nd_rf v = true) (h1 : cs ≤ mc) (h2 : ss ≤ ms) (hd : decode mm.2.1 pc = .ok (.areturn, 1)) (hK : K (.inl (some v)) h) : nd_W g mm d mc ms K X pc lv [v] h cs ss := by
  intro H ls locs hl hR hS
  refine vx_ret (W.widen h1 h2 ?_)
  exact W.aret (v := nd_v g v) hC.1 hC.2.1 (hC.2.2.1.trans hr) hrt (nd_rf_v hC.2.2.2.2.2.2.2.2.1 hv) (fun t ht hW => ⟨⟨some v, h, rfl, hK, by rw [ht]; exact hR⟩, hS.F ht⟩) hS.2.2 hd hC.2.2.2.2.2.2.1
/-- the judgement may be read off at a better form of its parts -/
theorem nd_to {lv2 : List (Option Value)} {st2 : List Value} {h2 : nd_H} (e1 : lv = lv2) (e2 : st = st2) (e3 : h = h2) (k : nd_W g mm d mc ms K X pc lv2 st2 h2 cs ss) : nd_W g mm d mc ms K X pc lv st h cs ss := by rw [e1, e2, e3]; exact k

theorem nd_iadd (hC : nd_Cx g mm X) {x y : Int32} (hd : decode mm.2.1 pc = .ok (.iadd, 1)) (k : nd_W g mm d mc ms K X (pc + 1) lv (.int (x + y) :: st) h cs ss) : nd_W g mm d mc ms K X pc lv (.int y :: .int x :: st) h cs ss := fun H ls locs hl hR hS => lv_iadd hC.1 hC.2.1 hd (k H ls locs hl hR hS)
theorem nd_isub (hC : nd_Cx g mm X) {x y : Int32} (hd : decode mm.2.1 pc = .ok (.isub, 1)) (k : nd_W g mm d mc ms K X (pc + 1) lv (.int (x - y) :: st) h cs ss) : nd_W g mm d mc ms K X pc lv (.int y :: .int x :: st) h cs ss := fun H ls locs hl hR hS => lv_isub hC.1 hC.2.1 hd (k H ls locs hl hR hS)
theorem nd_imul (hC : nd_Cx g mm X) {x y : Int32} (hd : decode mm.2.1 pc = .ok (.imul, 1)) (k : nd_W g mm d mc ms K X (pc + 1) lv (.int (x * y) :: st) h cs ss) : nd_W g mm d mc ms K X pc lv (.int y :: .int x :: st) h cs ss := fun H ls locs hl hR hS => lv_imul hC.1 hC.2.1 hd (k H ls locs hl hR hS)
theorem nd_iand (hC : nd_Cx g mm X) {x y : Int32} (hd : decode mm.2.1 pc = .ok (.iand, 1)) (k : nd_W g mm d mc ms K X (pc + 1) lv (.int (x &&& y) :: st) h cs ss) : nd_W g mm d mc ms K X pc lv (.int y :: .int x :: st) h cs ss := fun H ls locs hl hR hS => lv_iand hC.1 hC.2.1 hd (k H ls locs hl hR hS)
theorem nd_ior (hC : nd_Cx g mm X) {x y : Int32} (hd : decode mm.2.1 pc = .ok (.ior, 1)) (k : nd_W g mm d mc ms K X (pc + 1) lv (.int (x ||| y) :: st) h cs ss) : nd_W g mm d mc ms K X pc lv (.int y :: .int x :: st) h cs ss := fun H ls locs hl hR hS => lv_ior hC.1 hC.2.1 hd (k H ls locs hl hR hS)
theorem nd_ixor (hC : nd_Cx g mm X) {x y : Int32} (hd : decode mm.2.1 pc = .ok (.ixor, 1)) (k : nd_W g mm d mc ms K X (pc + 1) lv (.int (x ^^^ y) :: st) h cs ss) : nd_W g mm d mc ms K X pc lv (.int y :: .int x :: st) h cs ss := fun H ls locs hl hR hS => lv_ixor hC.1 hC.2.1 hd (k H ls locs hl hR hS)
theorem nd_ishl (hC : nd_Cx g mm X) {x y : Int32} (hd : decode mm.2.1 pc = .ok (.ishl, 1)) (k : nd_W g mm d mc ms K X (pc + 1) lv (.int (x <<< (y &&& 31)) :: st) h cs ss) : nd_W g mm d mc ms K X pc lv (.int y :: .int x :: st) h cs ss := fun H ls locs hl hR hS => lv_ishl hC.1 hC.2.1 hd (k H ls locs hl hR hS)
theorem nd_ishr (hC : nd_Cx g mm X) {x y : Int32} (hd : decode mm.2.1 pc = .ok (.ishr, 1)) (k : nd_W g mm d mc ms K X (pc + 1) lv (.int (x >>> (y &&& 31)) :: st) h cs ss) : nd_W g mm d mc ms K X pc lv (.int y :: .int x :: st) h cs ss := fun H ls locs hl hR hS => lv_ishr hC.1 hC.2.1 hd (k H ls locs hl hR hS)
theorem nd_idiv (hC : nd_Cx g mm X) {x y : Int32} (hne : ¬ y = 0) (hd : decode mm.2.1 pc = .ok (.idiv, 1)) (k : nd_W g mm d mc ms K X (pc + 1) lv (.int (x / y) :: st) h cs ss) : nd_W g mm d mc ms K X pc lv (.int y :: .int x :: st) h cs ss := fun H ls locs hl hR hS => lv_idiv hC.1 hC.2.1 hd hne (k H ls locs hl hR hS)
theorem nd_irem (hC : nd_Cx g mm X) {x y : Int32} (hne : ¬ y = 0) (hd : decode mm.2.1 pc = .ok (.irem, 1)) (k : nd_W g mm d mc ms K X (pc + 1) lv (.int (x - x / y * y) :: st) h cs ss) : nd_W g mm d mc ms K X pc lv (.int y :: .int x :: st) h cs ss := fun H ls locs hl hR hS => lv_irem hC.1 hC.2.1 hd hne (k H ls locs hl hR hS)
theorem nd_ladd (hC : nd_Cx g mm X) {x y : Int64} (hd : decode mm.2.1 pc = .ok (.ladd, 1)) (k : nd_W g mm d mc ms K X (pc + 1) lv (.long (x + y) :: st) h cs ss) : nd_W g mm d mc ms K X pc lv (.long y :: .long x :: st) h cs ss := fun H ls locs hl hR hS => lv_ladd hC.1 hC.2.1 hd (k H ls locs hl hR hS)
theorem nd_lsub (hC : nd_Cx g mm X) {x y : Int64} (hd : decode mm.2.1 pc = .ok (.lsub, 1)) (k : nd_W g mm d mc ms K X (pc + 1) lv (.long (x - y) :: st) h cs ss) : nd_W g mm d mc ms K X pc lv (.long y :: .long x :: st) h cs ss := fun H ls locs hl hR hS => lv_lsub hC.1 hC.2.1 hd (k H ls locs hl hR hS)
theorem nd_lmul (hC : nd_Cx g mm X) {x y : Int64} (hd : decode mm.2.1 pc = .ok (.lmul, 1)) (k : nd_W g mm d mc ms K X (pc + 1) lv (.long (x * y) :: st) h cs ss) : nd_W g mm d mc ms K X pc lv (.long y :: .long x :: st) h cs ss := fun H ls locs hl hR hS => lv_lmul hC.1 hC.2.1 hd (k H ls locs hl hR hS)
theorem nd_land (hC : nd_Cx g mm X) {x y : Int64} (hd : decode mm.2.1 pc = .ok (.land, 1)) (k : nd_W g mm d mc ms K X (pc + 1) lv (.long (x &&& y) :: st) h cs ss) : nd_W g mm d mc ms K X pc lv (.long y :: .long x :: st) h cs ss := fun H ls locs hl hR hS => lv_land hC.1 hC.2.1 hd (k H ls locs hl hR hS)
theorem nd_lor (hC : nd_Cx g mm X) {x y : Int64} (hd : decode mm.2.1 pc = .ok (.lor, 1)) (k : nd_W g mm d mc ms K X (pc + 1) lv (.long (x ||| y) :: st) h cs ss) : nd_W g mm d mc ms K X pc lv (.long y :: .long x :: st) h cs ss := fun H ls locs hl hR hS => lv_lor hC.1 hC.2.1 hd (k H ls locs hl hR hS)
theorem nd_lxor (hC : nd_Cx g mm X) {x y : Int64} (hd : decode mm.2.1 pc = .ok (.lxor, 1)) (k : nd_W g mm d mc ms K X (pc + 1) lv (.long (x ^^^ y) :: st) h cs ss) : nd_W g mm d mc ms K X pc lv (.long y :: .long x :: st) h cs ss := fun H ls locs hl hR hS => lv_lxor hC.1 hC.2.1 hd (k H ls locs hl hR hS)
theorem nd_ldiv (hC : nd_Cx g mm X) {x y : Int64} (hne : ¬ y = 0) (hd : decode mm.2.1 pc = .ok (.ldiv, 1)) (k : nd_W g mm d mc ms K X (pc + 1) lv (.long (x / y) :: st) h cs ss) : nd_W g mm d mc ms K X pc lv (.long y :: .long x :: st) h cs ss := fun H ls locs hl hR hS => lv_ldiv hC.1 hC.2.1 hd hne (k H ls locs hl hR hS)
theorem nd_lrem (hC : nd_Cx g mm X) {x y : Int64} (hne : ¬ y = 0) (hd : decode mm.2.1 pc = .ok (.lrem, 1)) (k : nd_W g mm d mc ms K X (pc + 1) lv (.long (x - x / y * y) :: st) h cs ss) : nd_W g mm d mc ms K X pc lv (.long y :: .long x :: st) h cs ss := fun H ls locs hl hR hS => lv_lrem hC.1 hC.2.1 hd hne (k H ls locs hl hR hS)
theorem nd_ineg (hC : nd_Cx g mm X) {x : Int32} (hd : decode mm.2.1 pc = .ok (.ineg, 1)) (k : nd_W g mm d mc ms K X (pc + 1) lv (.int (-x) :: st) h cs ss) : nd_W g mm d mc ms K X pc lv (.int x :: st) h cs ss := fun H ls locs hl hR hS => lv_ineg hC.1 hC.2.1 hd (k H ls locs hl hR hS)
theorem nd_lneg (hC : nd_Cx g mm X) {x : Int64} (hd : decode mm.2.1 pc = .ok (.lneg, 1)) (k : nd_W g mm d mc ms K X (pc + 1) lv (.long (-x) :: st) h cs ss) : nd_W g mm d mc ms K X pc lv (.long x :: st) h cs ss := fun H ls locs hl hR hS => lv_lneg hC.1 hC.2.1 hd (k H ls locs hl hR hS)
theorem nd_iushr (hC : nd_Cx g mm X) {x y : Int32} (hd : decode mm.2.1 pc = .ok (.iushr, 1)) (k : nd_W g mm d mc ms K X (pc + 1) lv (.int ((x.toUInt32 >>> (y.toUInt32 &&& Int32.toUInt32 31)).toInt32) :: st) h cs ss) : nd_W g mm d mc ms K X pc lv (.int y :: .int x :: st) h cs ss := fun H ls locs hl hR hS => lv_iushr hC.1 hC.2.1 hd rfl (k H ls locs hl hR hS)
theorem nd_lushr (hC : nd_Cx g mm X) {x : Int64} {y : Int32} (hd : decode mm.2.1 pc = .ok (.lushr, 1)) (k : nd_W g mm d mc ms K X (pc + 1) lv (.long ((x.toUInt64 >>> (y.toInt64.toUInt64 &&& Int64.toUInt64 63)).toInt64) :: st) h cs ss) : nd_W g mm d mc ms K X pc lv (.int y :: .long x :: st) h cs ss := fun H ls locs hl hR hS => lv_lushr hC.1 hC.2.1 hd rfl (k H ls locs hl hR hS)
theorem nd_lshl (hC : nd_Cx g mm X) {x : Int64} {y : Int32} (hd : decode mm.2.1 pc = .ok (.lshl, 1)) (k : nd_W g mm d mc ms K X (pc + 1) lv (.long (x <<< (y.toInt64 &&& 63)) :: st) h cs ss) : nd_W g mm d mc ms K X pc lv (.int y :: .long x :: st) h cs ss := fun H ls locs hl hR hS => lv_lshl hC.1 hC.2.1 hd rfl (k H ls locs hl hR hS)
theorem nd_lshr (hC : nd_Cx g mm X) {x : Int64} {y : Int32} (hd : decode mm.2.1 pc = .ok (.lshr, 1)) (k : nd_W g mm d mc ms K X (pc + 1) lv (.long (x >>> (y.toInt64 &&& 63)) :: st) h cs ss) : nd_W g mm d mc ms K X pc lv (.int y :: .long x :: st) h cs ss := fun H ls locs hl hR hS => lv_lshr hC.1 hC.2.1 hd rfl (k H ls locs hl hR hS)
theorem nd_i2l (hC : nd_Cx g mm X) {x : Int32} (hd : decode mm.2.1 pc = .ok (.i2l, 1)) (k : nd_W g mm d mc ms K X (pc + 1) lv (.long x.toInt64 :: st) h cs ss) : nd_W g mm d mc ms K X pc lv (.int x :: st) h cs ss := fun H ls locs hl hR hS => lv_i2l hC.1 hC.2.1 hd rfl (k H ls locs hl hR hS)
theorem nd_l2i (hC : nd_Cx g mm X) {x : Int64} (hd : decode mm.2.1 pc = .ok (.l2i, 1)) (k : nd_W g mm d mc ms K X (pc + 1) lv (.int x.toInt32 :: st) h cs ss) : nd_W g mm d mc ms K X pc lv (.long x :: st) h cs ss := fun H ls locs hl hR hS => lv_l2i hC.1 hC.2.1 hd rfl (k H ls locs hl hR hS)
theorem nd_i2b (hC : nd_Cx g mm X) {x : Int32} (hd : decode mm.2.1 pc = .ok (.i2b, 1)) (k : nd_W g mm d mc ms K X (pc + 1) lv (.int x.toInt8.toInt32 :: st) h cs ss) : nd_W g mm d mc ms K X pc lv (.int x :: st) h cs ss := fun H ls locs hl hR hS => lv_i2b hC.1 hC.2.1 hd rfl (k H ls locs hl hR hS)
theorem nd_i2s (hC : nd_Cx g mm X) {x : Int32} (hd : decode mm.2.1 pc = .ok (.i2s, 1)) (k : nd_W g mm d mc ms K X (pc + 1) lv (.int x.toInt16.toInt32 :: st) h cs ss) : nd_W g mm d mc ms K X pc lv (.int x :: st) h cs ss := fun H ls locs hl hR hS => lv_i2s hC.1 hC.2.1 hd rfl (k H ls locs hl hR hS)
theorem nd_i2c (hC : nd_Cx g mm X) {x : Int32} (hd : decode mm.2.1 pc = .ok (.i2c, 1)) (k : nd_W g mm d mc ms K X (pc + 1) lv (.int (x.toUInt32 % 65536).toInt32 :: st) h cs ss) : nd_W g mm d mc ms K X pc lv (.int x :: st) h cs ss := fun H ls locs hl hR hS => lv_i2c hC.1 hC.2.1 hd rfl (k H ls locs hl hR hS)
theorem nd_lcmp (hC : nd_Cx g mm X) {x y : Int64} (hd : decode mm.2.1 pc = .ok (.lcmp, 1)) (k : nd_W g mm d mc ms K X (pc + 1) lv (.int (lg_cmp x y) :: st) h cs ss) : nd_W g mm d mc ms K X pc lv (.long y :: .long x :: st) h cs ss := fun H ls locs hl hR hS => W.lcmp hC.1 hC.2.1 hd (k H ls locs hl hR hS)
theorem nd_iconst (hC : nd_Cx g mm X) {n : Int} {v : Int32} (hv : Int32.ofInt n = v) (hd : decode mm.2.1 pc = .ok (.iconst n, 1)) (k : nd_W g mm d mc ms K X (pc + 1) lv (.int v :: st) h cs ss) : nd_W g mm d mc ms K X pc lv st h cs ss := fun H ls locs hl hR hS => lv_iconst hC.1 hC.2.1 hd hv (k H ls locs hl hR hS)
theorem nd_bipush (hC : nd_Cx g mm X) {n : Int} {v : Int32} (hv : (Int8.ofInt n).toInt32 = v) (hd : decode mm.2.1 pc = .ok (.bipush n, 2)) (k : nd_W g mm d mc ms K X (pc + 2) lv (.int v :: st) h cs ss) : nd_W g mm d mc ms K X pc lv st h cs ss := fun H ls locs hl hR hS => lv_bipush hC.1 hC.2.1 hd hv (k H ls locs hl hR hS)
theorem nd_sipush (hC : nd_Cx g mm X) {n : Int} {v : Int32} (hv : (Int16.ofInt n).toInt32 = v) (hd : decode mm.2.1 pc = .ok (.sipush n, 3)) (k : nd_W g mm d mc ms K X (pc + 3) lv (.int v :: st) h cs ss) : nd_W g mm d mc ms K X pc lv st h cs ss := fun H ls locs hl hR hS => lv_sipush hC.1 hC.2.1 hd hv (k H ls locs hl hR hS)
theorem nd_lconst (hC : nd_Cx g mm X) {n : Fin 2} {v : Int64} (hv : Int64.ofNat (n : Nat) = v) (hd : decode mm.2.1 pc = .ok (.lconst n, 1)) (k : nd_W g mm d mc ms K X (pc + 1) lv (.long v :: st) h cs ss) : nd_W g mm d mc ms K X pc lv st h cs ss := fun H ls locs hl hR hS => lv_lconst hC.1 hC.2.1 hd hv (k H ls locs hl hR hS)
theorem nd_null (hC : nd_Cx g mm X) (hd : decode mm.2.1 pc = .ok (.aconst_null, 1)) (k : nd_W g mm d mc ms K X (pc + 1) lv (.null :: st) h cs ss) : nd_W g mm d mc ms K X pc lv st h cs ss := fun H ls locs hl hR hS => lv_null hC.1 hC.2.1 hd (k H ls locs hl hR hS)
theorem nd_dup (hC : nd_Cx g mm X) {va : Value} (hva : nd_c2 va = false) (hd : decode mm.2.1 pc = .ok (.dup, 1)) (k : nd_W g mm d mc ms K X (pc + 1) lv (va :: va :: st) h cs ss) : nd_W g mm d mc ms K X pc lv (va :: st) h cs ss := fun H ls locs hl hR hS => lv_dup hC.1 hC.2.1 hd (nd_c1 hC.2.2.2.2.2.2.2.2.1 hva) (k H ls locs hl hR hS)
theorem nd_pop (hC : nd_Cx g mm X) {va : Value} (hva : nd_c2 va = false) (hd : decode mm.2.1 pc = .ok (.pop, 1)) (k : nd_W g mm d mc ms K X (pc + 1) lv st h cs ss) : nd_W g mm d mc ms K X pc lv (va :: st) h cs ss := fun H ls locs hl hR hS => lv_pop hC.1 hC.2.1 hd (nd_c1 hC.2.2.2.2.2.2.2.2.1 hva) (k H ls locs hl hR hS)
theorem nd_dup_x1 (hC : nd_Cx g mm X) {va vb : Value} (hva : nd_c2 va = false) (hvb : nd_c2 vb = false) (hd : decode mm.2.1 pc = .ok (.dup_x1, 1)) (k : nd_W g mm d mc ms K X (pc + 1) lv (va :: vb :: va :: st) h cs ss) : nd_W g mm d mc ms K X pc lv (va :: vb :: st) h cs ss := fun H ls locs hl hR hS => lv_dup_x1 hC.1 hC.2.1 hd (nd_c1 hC.2.2.2.2.2.2.2.2.1 hva) (nd_c1 hC.2.2.2.2.2.2.2.2.1 hvb) (k H ls locs hl hR hS)
theorem nd_dup_x2 (hC : nd_Cx g mm X) {va vb vd : Value} (hva : nd_c2 va = false) (hvb : nd_c2 vb = false) (hvd : nd_c2 vd = false) (hd : decode mm.2.1 pc = .ok (.dup_x2, 1)) (k : nd_W g mm d mc ms K X (pc + 1) lv (va :: vb :: vd :: va :: st) h cs ss) : nd_W g mm d mc ms K X pc lv (va :: vb :: vd :: st) h cs ss := fun H ls locs hl hR hS => lv_dup_x2 hC.1 hC.2.1 hd (nd_c1 hC.2.2.2.2.2.2.2.2.1 hva) (nd_c1 hC.2.2.2.2.2.2.2.2.1 hvb) (nd_c1 hC.2.2.2.2.2.2.2.2.1 hvd) (k H ls locs hl hR hS)
theorem nd_dup2_11 (hC : nd_Cx g mm X) {va vb : Value} (hva : nd_c2 va = false) (hvb : nd_c2 vb = false) (hd : decode mm.2.1 pc = .ok (.dup2, 1)) (k : nd_W g mm d mc ms K X (pc + 1) lv (va :: vb :: va :: vb :: st) h cs ss) : nd_W g mm d mc ms K X pc lv (va :: vb :: st) h cs ss := fun H ls locs hl hR hS => lv_dup2_11 hC.1 hC.2.1 hd (nd_c1 hC.2.2.2.2.2.2.2.2.1 hva) (nd_c1 hC.2.2.2.2.2.2.2.2.1 hvb) (k H ls locs hl hR hS)
theorem nd_dup2_2 (hC : nd_Cx g mm X) {x : Int64} (hd : decode mm.2.1 pc = .ok (.dup2, 1)) (k : nd_W g mm d mc ms K X (pc + 1) lv (.long x :: .long x :: st) h cs ss) : nd_W g mm d mc ms K X pc lv (.long x :: st) h cs ss := fun H ls locs hl hR hS => lv_dup2_2 hC.1 hC.2.1 hd rfl (k H ls locs hl hR hS)
theorem nd_pop2_2 (hC : nd_Cx g mm X) {x : Int64} (hd : decode mm.2.1 pc = .ok (.pop2, 1)) (k : nd_W g mm d mc ms K X (pc + 1) lv st h cs ss) : nd_W g mm d mc ms K X pc lv (.long x :: st) h cs ss := fun H ls locs hl hR hS => lv_pop2_2 hC.1 hC.2.1 hd rfl (k H ls locs hl hR hS)
theorem nd_pop2_11 (hC : nd_Cx g mm X) {va vb : Value} (hva : nd_c2 va = false) (hvb : nd_c2 vb = false) (hd : decode mm.2.1 pc = .ok (.pop2, 1)) (k : nd_W g mm d mc ms K X (pc + 1) lv st h cs ss) : nd_W g mm d mc ms K X pc lv (va :: vb :: st) h cs ss := fun H ls locs hl hR hS => lv_pop2_11 hC.1 hC.2.1 hd (nd_c1 hC.2.2.2.2.2.2.2.2.1 hva) (nd_c1 hC.2.2.2.2.2.2.2.2.1 hvb) (k H ls locs hl hR hS)
theorem nd_dup2_x1_2 (hC : nd_Cx g mm X) {x : Int64} {vb : Value} (hvb : nd_c2 vb = false) (hd : decode mm.2.1 pc = .ok (.dup2_x1, 1)) (k : nd_W g mm d mc ms K X (pc + 1) lv (.long x :: vb :: .long x :: st) h cs ss) : nd_W g mm d mc ms K X pc lv (.long x :: vb :: st) h cs ss := fun H ls locs hl hR hS => lv_dup2_x1_2 hC.1 hC.2.1 hd rfl (nd_c1 hC.2.2.2.2.2.2.2.2.1 hvb) (k H ls locs hl hR hS)
theorem nd_dup2_x2_2 (hC : nd_Cx g mm X) {x : Int64} {vb vd : Value} (hvb : nd_c2 vb = false) (hvd : nd_c2 vd = false) (hd : decode mm.2.1 pc = .ok (.dup2_x2, 1)) (k : nd_W g mm d mc ms K X (pc + 1) lv (.long x :: vb :: vd :: .long x :: st) h cs ss) : nd_W g mm d mc ms K X pc lv (.long x :: vb :: vd :: st) h cs ss := fun H ls locs hl hR hS => lv_dup2_x2_2 hC.1 hC.2.1 hd rfl (nd_c1 hC.2.2.2.2.2.2.2.2.1 hvb) (nd_c1 hC.2.2.2.2.2.2.2.2.1 hvd) (k H ls locs hl hR hS)
theorem nd_iload_n (hC : nd_Cx g mm X) {j : Fin 4} {x : Int32} (hd : decode mm.2.1 pc = .ok (.iload_n j, 1)) (hl0 : lv[(j : Nat)]? = some (some (.int x))) (k : nd_W g mm d mc ms K X (pc + 1) lv (.int x :: st) h cs ss) : nd_W g mm d mc ms K X pc lv st h cs ss := fun H ls locs hl hR hS => lv_iload_n hC.1 hC.2.1 hd rfl (hl.2.2 _ _ hl0) (k H ls locs hl hR hS)
theorem nd_iload (hC : nd_Cx g mm X) {i : Nat} {x : Int32} (hd : decode mm.2.1 pc = .ok (.iload i, 2)) (hl0 : lv[i]? = some (some (.int x))) (k : nd_W g mm d mc ms K X (pc + 2) lv (.int x :: st) h cs ss) : nd_W g mm d mc ms K X pc lv st h cs ss := fun H ls locs hl hR hS => lv_iload hC.1 hC.2.1 hd (hl.2.2 _ _ hl0) (k H ls locs hl hR hS)
theorem nd_lload_n (hC : nd_Cx g mm X) {j : Fin 4} {x : Int64} (hd : decode mm.2.1 pc = .ok (.lload_n j, 1)) (hl0 : lv[(j : Nat)]? = some (some (.long x))) (k : nd_W g mm d mc ms K X (pc + 1) lv (.long x :: st) h cs ss) : nd_W g mm d mc ms K X pc lv st h cs ss := fun H ls locs hl hR hS => lv_lload_n hC.1 hC.2.1 hd rfl (hl.2.2 _ _ hl0) (k H ls locs hl hR hS)
theorem nd_lload (hC : nd_Cx g mm X) {i : Nat} {x : Int64} (hd : decode mm.2.1 pc = .ok (.lload i, 2)) (hl0 : lv[i]? = some (some (.long x))) (k : nd_W g mm d mc ms K X (pc + 2) lv (.long x :: st) h cs ss) : nd_W g mm d mc ms K X pc lv st h cs ss := fun H ls locs hl hR hS => lv_lload hC.1 hC.2.1 hd (hl.2.2 _ _ hl0) (k H ls locs hl hR hS)
theorem nd_aload_n (hC : nd_Cx g mm X) {j : Fin 4} {v : Value} (hd : decode mm.2.1 pc = .ok (.aload_n j, 1)) (hl0 : lv[(j : Nat)]? = some (some v)) (hv : nd_rf v = true) (k : nd_W g mm d mc ms K X (pc + 1) lv (v :: st) h cs ss) : nd_W g mm d mc ms K X pc lv st h cs ss := by
  intro H ls locs hl hR hS
  have k1 := k H ls locs hl hR hS
  have h1 := hl.2.2 _ _ hl0
  rw [show (v :: st).map (nd_v g) = nd_v g v :: st.map (nd_v g) from rfl] at k1
  rcases nd_rf_v hC.2.2.2.2.2.2.2.2.1 hv with e | ⟨a, e⟩ <;> rw [e] at h1 k1
  · exact lv_aload_nN hC.1 hC.2.1 hd rfl h1 k1
  · exact lv_aload_n hC.1 hC.2.1 hd rfl h1 k1
theorem nd_aload (hC : nd_Cx g mm X) {i : Nat} {v : Value} (hd : decode mm.2.1 pc = .ok (.aload i, 2)) (hl0 : lv[i]? = some (some v)) (hv : nd_rf v = true) (k : nd_W g mm d mc ms K X (pc + 2) lv (v :: st) h cs ss) : nd_W g mm d mc ms K X pc lv st h cs ss := by
  intro H ls locs hl hR hS
  have k1 := k H ls locs hl hR hS
  have h1 := hl.2.2 _ _ hl0
  rw [show (v :: st).map (nd_v g) = nd_v g v :: st.map (nd_v g) from rfl] at k1
  rcases nd_rf_v hC.2.2.2.2.2.2.2.2.1 hv with e | ⟨a, e⟩ <;> rw [e] at h1 k1
  · exact lv_aloadN hC.1 hC.2.1 hd h1 k1
  · exact lv_aload hC.1 hC.2.1 hd h1 k1
theorem nd_istore_n (hC : nd_Cx g mm X) {j : Fin 4} {x : Int32} (hd : decode mm.2.1 pc = .ok (.istore_n j, 1)) (hn : (j : Nat) < mm.2.2.1) (k : nd_W g mm d mc ms K X (pc + 1) (nd_st1 lv (j : Nat) (.int x)) st h cs ss) : nd_W g mm d mc ms K X pc lv (.int x :: st) h cs ss := fun H ls locs hl hR hS => lv_istore_n hC.1 hC.2.1 hd rfl hl.has hn rfl (fun ls2 h2 => k H ls2 locs (nd_L.of1 hC.2.2.2.2.2.2.2.2.1 h2) hR hS)
theorem nd_istore (hC : nd_Cx g mm X) {i : Nat} {x : Int32} (hd : decode mm.2.1 pc = .ok (.istore i, 2)) (hn : i < mm.2.2.1) (k : nd_W g mm d mc ms K X (pc + 2) (nd_st1 lv i (.int x)) st h cs ss) : nd_W g mm d mc ms K X pc lv (.int x :: st) h cs ss := fun H ls locs hl hR hS => lv_istore hC.1 hC.2.1 hd hl.has hn rfl (fun ls2 h2 => k H ls2 locs (nd_L.of1 hC.2.2.2.2.2.2.2.2.1 h2) hR hS)
theorem nd_lstore_n (hC : nd_Cx g mm X) {j : Fin 4} {x : Int64} (hd : decode mm.2.1 pc = .ok (.lstore_n j, 1)) (hn : (j : Nat) + 1 < mm.2.2.1) (k : nd_W g mm d mc ms K X (pc + 1) (nd_st2 lv (j : Nat) (.long x)) st h cs ss) : nd_W g mm d mc ms K X pc lv (.long x :: st) h cs ss := fun H ls locs hl hR hS => lv_lstore_n hC.1 hC.2.1 hd rfl hl.has hn rfl (fun ls2 h2 => k H ls2 locs (nd_L.of2 hC.2.2.2.2.2.2.2.2.1 h2) hR hS)
theorem nd_lstore (hC : nd_Cx g mm X) {i : Nat} {x : Int64} (hd : decode mm.2.1 pc = .ok (.lstore i, 2)) (hn : i + 1 < mm.2.2.1) (k : nd_W g mm d mc ms K X (pc + 2) (nd_st2 lv i (.long x)) st h cs ss) : nd_W g mm d mc ms K X pc lv (.long x :: st) h cs ss := fun H ls locs hl hR hS => lv_lstore hC.1 hC.2.1 hd hl.has hn rfl (fun ls2 h2 => k H ls2 locs (nd_L.of2 hC.2.2.2.2.2.2.2.2.1 h2) hR hS)
theorem nd_astore_n (hC : nd_Cx g mm X) {j : Fin 4} {v : Value} (hd : decode mm.2.1 pc = .ok (.astore_n j, 1)) (hn : (j : Nat) < mm.2.2.1) (hv : nd_rf v = true) (k : nd_W g mm d mc ms K X (pc + 1) (nd_st1 lv (j : Nat) v) st h cs ss) : nd_W g mm d mc ms K X pc lv (v :: st) h cs ss := by
  intro H ls locs hl hR hS
  have of1 := @nd_L.of1 g mm.2.2.1 (j : Nat) v lv hC.2.2.2.2.2.2.2.2.1
  rw [show (v :: st).map (nd_v g) = nd_v g v :: st.map (nd_v g) from rfl]
  rcases nd_rf_v hC.2.2.2.2.2.2.2.2.1 hv with e | ⟨a, e⟩ <;> rw [e] at of1 ⊢
  · exact lv_astore_nN hC.1 hC.2.1 hd rfl hl.has hn rfl (fun ls2 h2 => k H ls2 locs (of1 h2) hR hS)
  · exact lv_astore_n hC.1 hC.2.1 hd rfl hl.has hn rfl (fun ls2 h2 => k H ls2 locs (of1 h2) hR hS)
theorem nd_astore (hC : nd_Cx g mm X) {i : Nat} {v : Value} (hd : decode mm.2.1 pc = .ok (.astore i, 2)) (hn : i < mm.2.2.1) (hv : nd_rf v = true) (k : nd_W g mm d mc ms K X (pc + 2) (nd_st1 lv i v) st h cs ss) : nd_W g mm d mc ms K X pc lv (v :: st) h cs ss := by
  intro H ls locs hl hR hS
  have of1 := @nd_L.of1 g mm.2.2.1 i v lv hC.2.2.2.2.2.2.2.2.1
  rw [show (v :: st).map (nd_v g) = nd_v g v :: st.map (nd_v g) from rfl]
  rcases nd_rf_v hC.2.2.2.2.2.2.2.2.1 hv with e | ⟨a, e⟩ <;> rw [e] at of1 ⊢
  · exact lv_astoreN hC.1 hC.2.1 hd hl.has hn rfl (fun ls2 h2 => k H ls2 locs (of1 h2) hR hS)
  · exact lv_astore hC.1 hC.2.1 hd hl.has hn rfl (fun ls2 h2 => k H ls2 locs (of1 h2) hR hS)
theorem nd_iinc (hC : nd_Cx g mm X) {i : Nat} {n : Int} {x v : Int32} (hd : decode mm.2.1 pc = .ok (.iinc i n, 3)) (hl0 : lv[i]? = some (some (.int x))) (hv : x + Int32.ofInt n = v) (hn : i < mm.2.2.1) (k : nd_W g mm d mc ms K X (pc + 3) (nd_st1 lv i (.int v)) st h cs ss) : nd_W g mm d mc ms K X pc lv st h cs ss := by
  intro H ls locs hl hR hS
  obtain ⟨kk, hk⟩ := List.getElem?_of_mem (nd_as_mem (g := g).mpr ⟨_, hl0, rfl⟩)
  exact lv_iinc hC.1 hC.2.1 hd hl.has hk hv hn rfl (fun ls2 h2 => k H ls2 locs (nd_L.of1 (v := .int v) hC.2.2.2.2.2.2.2.2.1 h2) hR hS)
theorem nd_goto (hC : nd_Cx g mm X) {off : Int} {tgt : Nat} (hd : decode mm.2.1 pc = .ok (.goto off, 3)) (ht : (pc : Int) + off = (tgt : Int)) (k : nd_W g mm d mc ms K X tgt lv st h cs ss) : nd_W g mm d mc ms K X pc lv st h cs ss := fun H ls locs hl hR hS => lv_goto hC.1 hC.2.1 hd ht (k H ls locs hl hR hS)
theorem nd_icmp_eq (hC : nd_Cx g mm X) {x y : Int32} {off : Int} {tgt : Nat} (hd : decode mm.2.1 pc = .ok (.if_icmp .eq off, 3)) (ht : (pc : Int) + off = (tgt : Int)) (kt : x = y → nd_W g mm d mc ms K X tgt lv st h cs ss) (kf : ¬ x = y → nd_W g mm d mc ms K X (pc + 3) lv st h cs ss) : nd_W g mm d mc ms K X pc lv (.int y :: .int x :: st) h cs ss := fun H ls locs hl hR hS => lv_icmp_eq hC.1 hC.2.1 hd ht (fun q => kt q H ls locs hl hR hS) (fun q => kf q H ls locs hl hR hS)
theorem nd_if_eq (hC : nd_Cx g mm X) {x : Int32} {off : Int} {tgt : Nat} (hd : decode mm.2.1 pc = .ok (.ifCond .eq off, 3)) (ht : (pc : Int) + off = (tgt : Int)) (kt : x = 0 → nd_W g mm d mc ms K X tgt lv st h cs ss) (kf : ¬ x = 0 → nd_W g mm d mc ms K X (pc + 3) lv st h cs ss) : nd_W g mm d mc ms K X pc lv (.int x :: st) h cs ss := fun H ls locs hl hR hS => lv_if_eq hC.1 hC.2.1 hd ht (fun q => kt q H ls locs hl hR hS) (fun q => kf q H ls locs hl hR hS)
theorem nd_icmp_ne (hC : nd_Cx g mm X) {x y : Int32} {off : Int} {tgt : Nat} (hd : decode mm.2.1 pc = .ok (.if_icmp .ne off, 3)) (ht : (pc : Int) + off = (tgt : Int)) (kt : ¬ x = y → nd_W g mm d mc ms K X tgt lv st h cs ss) (kf : x = y → nd_W g mm d mc ms K X (pc + 3) lv st h cs ss) : nd_W g mm d mc ms K X pc lv (.int y :: .int x :: st) h cs ss := fun H ls locs hl hR hS => lv_icmp_ne hC.1 hC.2.1 hd ht (fun q => kt q H ls locs hl hR hS) (fun q => kf q H ls locs hl hR hS)
theorem nd_if_ne (hC : nd_Cx g mm X) {x : Int32} {off : Int} {tgt : Nat} (hd : decode mm.2.1 pc = .ok (.ifCond .ne off, 3)) (ht : (pc : Int) + off = (tgt : Int)) (kt : ¬ x = 0 → nd_W g mm d mc ms K X tgt lv st h cs ss) (kf : x = 0 → nd_W g mm d mc ms K X (pc + 3) lv st h cs ss) : nd_W g mm d mc ms K X pc lv (.int x :: st) h cs ss := fun H ls locs hl hR hS => lv_if_ne hC.1 hC.2.1 hd ht (fun q => kt q H ls locs hl hR hS) (fun q => kf q H ls locs hl hR hS)
theorem nd_icmp_lt (hC : nd_Cx g mm X) {x y : Int32} {off : Int} {tgt : Nat} (hd : decode mm.2.1 pc = .ok (.if_icmp .lt off, 3)) (ht : (pc : Int) + off = (tgt : Int)) (kt : x < y → nd_W g mm d mc ms K X tgt lv st h cs ss) (kf : ¬ x < y → nd_W g mm d mc ms K X (pc + 3) lv st h cs ss) : nd_W g mm d mc ms K X pc lv (.int y :: .int x :: st) h cs ss := fun H ls locs hl hR hS => lv_icmp_lt hC.1 hC.2.1 hd ht (fun q => kt q H ls locs hl hR hS) (fun q => kf q H ls locs hl hR hS)
theorem nd_if_lt (hC : nd_Cx g mm X) {x : Int32} {off : Int} {tgt : Nat} (hd : decode mm.2.1 pc = .ok (.ifCond .lt off, 3)) (ht : (pc : Int) + off = (tgt : Int)) (kt : x < 0 → nd_W g mm d mc ms K X tgt lv st h cs ss) (kf : ¬ x < 0 → nd_W g mm d mc ms K X (pc + 3) lv st h cs ss) : nd_W g mm d mc ms K X pc lv (.int x :: st) h cs ss := fun H ls locs hl hR hS => lv_if_lt hC.1 hC.2.1 hd ht (fun q => kt q H ls locs hl hR hS) (fun q => kf q H ls locs hl hR hS)
theorem nd_icmp_ge (hC : nd_Cx g mm X) {x y : Int32} {off : Int} {tgt : Nat} (hd : decode mm.2.1 pc = .ok (.if_icmp .ge off, 3)) (ht : (pc : Int) + off = (tgt : Int)) (kt : y ≤ x → nd_W g mm d mc ms K X tgt lv st h cs ss) (kf : ¬ y ≤ x → nd_W g mm d mc ms K X (pc + 3) lv st h cs ss) : nd_W g mm d mc ms K X pc lv (.int y :: .int x :: st) h cs ss := fun H ls locs hl hR hS => lv_icmp_ge hC.1 hC.2.1 hd ht (fun q => kt q H ls locs hl hR hS) (fun q => kf q H ls locs hl hR hS)
theorem nd_if_ge (hC : nd_Cx g mm X) {x : Int32} {off : Int} {tgt : Nat} (hd : decode mm.2.1 pc = .ok (.ifCond .ge off, 3)) (ht : (pc : Int) + off = (tgt : Int)) (kt : 0 ≤ x → nd_W g mm d mc ms K X tgt lv st h cs ss) (kf : ¬ 0 ≤ x → nd_W g mm d mc ms K X (pc + 3) lv st h cs ss) : nd_W g mm d mc ms K X pc lv (.int x :: st) h cs ss := fun H ls locs hl hR hS => lv_if_ge hC.1 hC.2.1 hd ht (fun q => kt q H ls locs hl hR hS) (fun q => kf q H ls locs hl hR hS)
theorem nd_icmp_gt (hC : nd_Cx g mm X) {x y : Int32} {off : Int} {tgt : Nat} (hd : decode mm.2.1 pc = .ok (.if_icmp .gt off, 3)) (ht : (pc : Int) + off = (tgt : Int)) (kt : y < x → nd_W g mm d mc ms K X tgt lv st h cs ss) (kf : ¬ y < x → nd_W g mm d mc ms K X (pc + 3) lv st h cs ss) : nd_W g mm d mc ms K X pc lv (.int y :: .int x :: st) h cs ss := fun H ls locs hl hR hS => lv_icmp_gt hC.1 hC.2.1 hd ht (fun q => kt q H ls locs hl hR hS) (fun q => kf q H ls locs hl hR hS)
theorem nd_if_gt (hC : nd_Cx g mm X) {x : Int32} {off : Int} {tgt : Nat} (hd : decode mm.2.1 pc = .ok (.ifCond .gt off, 3)) (ht : (pc : Int) + off = (tgt : Int)) (kt : 0 < x → nd_W g mm d mc ms K X tgt lv st h cs ss) (kf : ¬ 0 < x → nd_W g mm d mc ms K X (pc + 3) lv st h cs ss) : nd_W g mm d mc ms K X pc lv (.int x :: st) h cs ss := fun H ls locs hl hR hS => lv_if_gt hC.1 hC.2.1 hd ht (fun q => kt q H ls locs hl hR hS) (fun q => kf q H ls locs hl hR hS)
theorem nd_icmp_le (hC : nd_Cx g mm X) {x y : Int32} {off : Int} {tgt : Nat} (hd : decode mm.2.1 pc = .ok (.if_icmp .le off, 3)) (ht : (pc : Int) + off = (tgt : Int)) (kt : x ≤ y → nd_W g mm d mc ms K X tgt lv st h cs ss) (kf : ¬ x ≤ y → nd_W g mm d mc ms K X (pc + 3) lv st h cs ss) : nd_W g mm d mc ms K X pc lv (.int y :: .int x :: st) h cs ss := fun H ls locs hl hR hS => lv_icmp_le hC.1 hC.2.1 hd ht (fun q => kt q H ls locs hl hR hS) (fun q => kf q H ls locs hl hR hS)
theorem nd_if_le (hC : nd_Cx g mm X) {x : Int32} {off : Int} {tgt : Nat} (hd : decode mm.2.1 pc = .ok (.ifCond .le off, 3)) (ht : (pc : Int) + off = (tgt : Int)) (kt : x ≤ 0 → nd_W g mm d mc ms K X tgt lv st h cs ss) (kf : ¬ x ≤ 0 → nd_W g mm d mc ms K X (pc + 3) lv st h cs ss) : nd_W g mm d mc ms K X pc lv (.int x :: st) h cs ss := fun H ls locs hl hR hS => lv_if_le hC.1 hC.2.1 hd ht (fun q => kt q H ls locs hl hR hS) (fun q => kf q H ls locs hl hR hS)
end NDR
