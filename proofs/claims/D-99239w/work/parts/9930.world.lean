set_option maxRecDepth 100000
/-! ===== THE CLASS's WORLD: S lies in the heap ===== -/
/-- cells that a reading call may use up -/
def cw_sc (a : Nat) : Prop := (9 ≤ a ∧ a ≤ 16) ∨ (18 ≤ a ∧ a ≤ 89) ∨ a = 94 ∨ a = 100
/-- nothing else has changed -/
def cw_f (h h2 : nd_H) : Prop := h.length ≤ h2.length ∧ ∀ a c, h[a]? = some c → ¬ cw_sc a → h2[a]? = some c
theorem cw_f.rfl {h : nd_H} : cw_f h h := ⟨Nat.le_refl _, fun _ _ e _ => e⟩
theorem cw_f.trans {h h2 h3 : nd_H} (a : cw_f h h2) (b : cw_f h2 h3) : cw_f h h3 := ⟨Nat.le_trans a.1 b.1, fun x c e z => b.2 x c (a.2 x c e z) z⟩
theorem cw_f.app {h h2 : nd_H} {js : nd_H} (a : cw_f h h2) : cw_f h (h2 ++ js) := ⟨by rw [List.length_append]; have := a.1; omega, fun x c e z => (List.getElem?_append_left (nd_get_lt (a.2 x c e z))).trans (a.2 x c e z)⟩
theorem cw_f.set {h h2 : nd_H} {b : Nat} {c : nd_C} (a : cw_f h h2) (hb : h.length ≤ b ∨ cw_sc b) : cw_f h (h2.set b c) := ⟨by rw [List.length_set]; exact a.1, fun x c e z => by
  have hne : b ≠ x := by
    intro q
    subst q
    rcases hb with w | w
    · have := nd_get_lt e
      omega
    · exact z w
  rw [List.getElem?_set_ne hne]; exact a.2 x c e z⟩
theorem ck_fr.cwf {h h2 : nd_H} {L n : Nat} (f : ck_fr L n h h2) (hL : ∀ a, L ≤ a → a < L + n → cw_sc a) : cw_f h h2 := ⟨by rw [f.1]; exact Nat.le_refl _, fun a c e z => (f.2 a (fun q => z (hL a q.1 q.2))).trans e⟩
/-- a list of states: their blocks -/
def cw_l (o : Nat → Nat) (h : nd_H) (dl τ : Nat) (ds : List Nat) : Prop := (ds = [] ∧ ∃ m, h[dl]? = some (.inr (nJ2, [.int m, nd_f 201, .int (nI 0)]))) ∨ (∃ m ed gf, o ed = τ ∧ 123 ≤ ed ∧ h[dl]? = some (.inr (nJ2, [.int m, .ref ed, .int (nI ds.length)])) ∧ h[ed]? = some (.inl (10, 10, .inr (.inr gf))) ∧ (∀ i, i < 10 → nd_rf (gf i) = true) ∧ ∀ i, i < ds.length → gf i = .ref (ds.getD i 0))
def cw_b (o : Nat → Nat) (h : nd_H) (nap a : Nat) (s : sv) : Prop := 123 ≤ a ∧ (∀ i, i < 8 → o (a + i) = 20 + a) ∧ cs_st h a nap s
/-- napkin, state, what can be undone -/
def cw_k (o : Nat → Nat) (h : nd_H) (st dl τ nap : Nat) (P : sy_P) (ds : List Nat) : Prop := cn_N o h nap P.1 ∧ cs_st h st nap P.2.1 ∧ cw_l o h dl τ ds ∧ ds.length = P.2.2.length ∧ ∀ i, i < ds.length → cw_b o h nap (ds.getD i 0) (P.2.2.getD i ([], [], []))
def cw_im (o : Nat → Nat) (h : nd_H) (i : Nat) (v : Value) (q : Option sy_P) (ds : List Nat) : Prop := match q with
  | none => v = .null ∧ ds = []
  | some P => ∃ (b nap : Nat), v = .ref b ∧ 123 ≤ b ∧ (∀ j, j < 10 → o (b + j) = 10 + i) ∧ h[b]? = some (.inr (nX40, [.ref (b + 1), .ref (b + 9), .ref 0])) ∧ cw_k o h (b + 1) (b + 9) (10 + i) nap P ds
def cw_ty (o : Nat → Nat) (h : nd_H) (t : Nat) (q : Option (Nat × List Int64)) : Prop := match q with
  | none => h[96 + t]? = some (.inr (nX6, [.null]))
  | some q => ∃ b, o b = 4 + t ∧ 123 ≤ b ∧ h[96 + t]? = some (.inr (nX6, [.ref b])) ∧ ty_rw h b q
/-- a byte as the tape holds it -/
def i_sb (n : Nat) : Int32 := if n < 128 then nI n else nI n - nI 256
/-- the part that lasts -/
def cw_K (o : Nat → Nat) (nap : Nat) (ds : List Nat) (gi : Nat → Value) (dss : Nat → List Nat) (S : sy_S) (h : nd_H) : Prop :=
  (∃ x, cx_O h (nI (sy_b S).length) (nI (sy_fk S)) (sy_fp S) x) ∧ h[17]? = some (.inl (6, 8, .inr (.inr (fun k => .ref (18 + 9 * k))))) ∧ cw_k o h 1 90 2 nap (sy_p S) ds ∧
  h[91]? = some (.inl (7, 3, .inr (.inr gi))) ∧ (∀ i, i < 3 → cw_im o h i (gi i) (sy_i S i) (dss i)) ∧ (ds ++ (dss 0 ++ (dss 1 ++ dss 2))).Nodup ∧
  h[95]? = some (.inl (8, 4, .inr (.inr (fun t => .ref (96 + t))))) ∧ (∀ t, t < 4 → cw_ty o h t (sy_t S t)) ∧ (∃ tf, h[92]? = some (.inl (2, 900, .inl tf)) ∧ ∀ i, i < (sy_b S).length → tf i = i_sb ((sy_b S).getD i 0)) ∧
  h[93]? = some (.inr (nX5, [.ref 94])) ∧ ∀ a, o a ≠ 0 → a < h.length ∧ ((2 ≤ a ∧ a ≤ 5) ∨ 123 ≤ a)
/-- the part that is used up at every call -/
def cw_S (h : nd_H) : Prop := (∀ k, k < 8 → ck_any h (18 + 9 * k)) ∧ (∃ tl, h[94]? = some (.inl (0, 8, .inl tl))) ∧ (∃ n2 fr bk fo mn, cs_S h 9 n2 fr bk fo mn) ∧ ∃ cf, h[100]? = some (.inl (1, 28000, .inr (.inl cf)))
def cw_I (S : sy_S) (h : nd_H) : Prop := cw_S h ∧ ∃ o nap ds gi dss, cw_K o nap ds gi dss S h
theorem cw_hi {a : Nat} (h : 101 ≤ a) : ¬ cw_sc a := by unfold cw_sc; omega
theorem cs_st.f {h h2 : nd_H} {a nap : Nat} {s : sv} (hS : cs_st h a nap s) (f : cw_f h h2) (ha : a = 1 ∨ 123 ≤ a) : cs_st h2 a nap s := by
  obtain ⟨fr, bk, fo, mn, ⟨a1, a2, a3, a4⟩, hv⟩ := hS
  exact ⟨fr, bk, fo, mn, ⟨f.2 _ _ a1 (by unfold cw_sc; omega), f.2 _ _ a2 (by unfold cw_sc; omega), f.2 _ _ a3 (by unfold cw_sc; omega), f.2 _ _ a4 (by unfold cw_sc; omega)⟩, hv⟩
theorem cw_l.f {o : Nat → Nat} {h h2 : nd_H} {dl τ : Nat} {ds : List Nat} (H : cw_l o h dl τ ds) (f : cw_f h h2) (hd : ¬ cw_sc dl) : cw_l o h2 dl τ ds := by
  rcases H with ⟨a1, m, a2⟩ | ⟨m, ed, gf, a1, a2, a3, a4, a5, a6⟩
  · exact Or.inl ⟨a1, m, f.2 _ _ a2 hd⟩
  · exact Or.inr ⟨m, ed, gf, a1, a2, f.2 _ _ a3 hd, f.2 _ _ a4 (cw_hi (by omega)), a5, a6⟩
theorem cw_k.f {o : Nat → Nat} {h h2 : nd_H} {st dl τ nap : Nat} {P : sy_P} {ds : List Nat} (H : cw_k o h st dl τ nap P ds) (f : cw_f h h2) (ho : fk o h h2) (hs : st = 1 ∨ 123 ≤ st) (hd : ¬ cw_sc dl) : cw_k o h2 st dl τ nap P ds :=
  ⟨H.1.k ho, H.2.1.f f hs, H.2.2.1.f f hd, H.2.2.2.1, fun i hi => ⟨(H.2.2.2.2 i hi).1, (H.2.2.2.2 i hi).2.1, (H.2.2.2.2 i hi).2.2.f f (Or.inr (H.2.2.2.2 i hi).1)⟩⟩
theorem ty_rw.f {h h2 : nd_H} {b : Nat} {q : Nat × List Int64} (H : ty_rw h b q) (e : ∀ c, h[b]? = some c → h2[b]? = some c) : ty_rw h2 b q := by
  obtain ⟨n, a, a1, a2⟩ := H
  exact ⟨n, a, e _ a1, a2⟩
theorem cw_K.fk {o : Nat → Nat} {nap : Nat} {ds : List Nat} {gi : Nat → Value} {dss : Nat → List Nat} {S : sy_S} {h h2 : nd_H} (H : cw_K o nap ds gi dss S h) (f : cw_f h h2) : fk o h h2 := by
  obtain ⟨-, -, -, -, -, -, -, -, -, -, ho⟩ := H
  intro a ha
  obtain ⟨h1, h3⟩ := ho a (by omega)
  have e : h[a]? = some h[a] := List.getElem?_eq_getElem h1
  rw [f.2 a _ e (by unfold cw_sc; omega), e]
theorem cw_K.f {o : Nat → Nat} {nap : Nat} {ds : List Nat} {gi : Nat → Value} {dss : Nat → List Nat} {S : sy_S} {h h2 : nd_H} (H : cw_K o nap ds gi dss S h) (f : cw_f h h2) : cw_K o nap ds gi dss S h2 := by
  have hk := H.fk f
  obtain ⟨⟨x, a1⟩, a2, a3, a4, a5, a6, a7, a8, ⟨tf, a9, a10⟩, a11, a12⟩ := H
  have n : ∀ {a : Nat}, a = 0 ∨ a = 17 ∨ (90 ≤ a ∧ a ≤ 93) ∨ (95 ≤ a ∧ a ≤ 99) → ¬ cw_sc a := by intro a ha; unfold cw_sc; omega
  refine ⟨⟨x, f.2 _ _ a1 (n (by omega))⟩, f.2 _ _ a2 (n (by omega)), a3.f f hk (Or.inl rfl) (n (by omega)), f.2 _ _ a4 (n (by omega)), fun i hi => ?_, a6, f.2 _ _ a7 (n (by omega)), fun t ht => ?_, ⟨tf, f.2 _ _ a9 (n (by omega)), a10⟩, f.2 _ _ a11 (n (by omega)), fun a ha => ⟨Nat.lt_of_lt_of_le (a12 a ha).1 f.1, (a12 a ha).2⟩⟩
  · have M := a5 i hi
    unfold cw_im at M ⊢
    cases e : sy_i S i with
    | none => rw [e] at M; exact M
    | some P =>
      rw [e] at M
      obtain ⟨b, np, b1, b2, b3, b4, b5⟩ := M
      exact ⟨b, np, b1, b2, b3, f.2 _ _ b4 (cw_hi (by omega)), b5.f f hk (Or.inr (by omega)) (cw_hi (by omega))⟩
  · have M := a8 t ht
    unfold cw_ty at M ⊢
    cases e : sy_t S t with
    | none => rw [e] at M; exact f.2 _ _ M (n (by omega))
    | some q =>
      rw [e] at M
      obtain ⟨b, b1, b2, b3, b4⟩ := M
      exact ⟨b, b1, b2, f.2 _ _ b3 (n (by omega)), b4.f (fun c ec => f.2 _ _ ec (cw_hi (by omega)))⟩
/-- for reading -/
theorem cw_K.P {o : Nat → Nat} {nap : Nat} {ds : List Nat} {gi : Nat → Value} {dss : Nat → List Nat} {S : sy_S} {h : nd_H} (H : cw_K o nap ds gi dss S h) (hs : cw_S h) : cw_P o h nap (sy_N S) (sy_c S) := by
  obtain ⟨⟨x, a1⟩, a2, a3, a4, a5, a6, a7, a8, a9, a11, a12⟩ := H
  obtain ⟨b1, ⟨tl, b2⟩, b3, b4⟩ := hs
  exact ⟨⟨_, _, _, _, a1⟩, a2, b1, a3.2.1, a3.1, ⟨tl, a11, b2⟩, fun a ha => (a12 a (by omega)).2⟩
/-- the scratch part behind it, out of the reading world -/
theorem cw_P.S {o : Nat → Nat} {nap : Nat} {N : nk_N} {s : sv} {h h2 : nd_H} (H : cw_P o h2 nap N s) (hs : cw_S h) (h9 : ∀ a, (9 ≤ a ∧ a ≤ 16) ∨ a = 100 → h2[a]? = h[a]?) : cw_S h2 := by
  obtain ⟨-, -, b1, -, -, ⟨tl, b2⟩, -⟩ := H
  obtain ⟨-, -, ⟨n2, fr, bk, fo, mn, c1, c2, c3, c4⟩, ⟨cf, c5⟩⟩ := hs
  exact ⟨b1, ⟨tl, b2.2⟩, ⟨n2, fr, bk, fo, mn, (h9 _ (by omega)).trans c1, (h9 _ (by omega)).trans c2, (h9 _ (by omega)).trans c3, (h9 _ (by omega)).trans c4⟩, ⟨cf, (h9 _ (by omega)).trans c5⟩⟩
theorem cw_S.app {h js : nd_H} (H : cw_S h) : cw_S (h ++ js) := by
  obtain ⟨b1, ⟨tl, b2⟩, ⟨n2, fr, bk, fo, mn, c1, c2, c3, c4⟩, ⟨cf, c5⟩⟩ := H
  have e : ∀ {a : Nat} {c : nd_C}, h[a]? = some c → (h ++ js)[a]? = some c := fun q => (List.getElem?_append_left (nd_get_lt q)).trans q
  refine ⟨fun k hk => ?_, ⟨tl, e b2⟩, ⟨n2, fr, bk, fo, mn, e c1, e c2, e c3, e c4⟩, ⟨cf, e c5⟩⟩
  obtain ⟨w, hi, co, d1, d2, d3, d4⟩ := b1 k hk
  exact ⟨w, hi, co, e d1, e d2, fun t ht => e (d3 t ht), e d4⟩
theorem cw_I.app {S : sy_S} {h js : nd_H} (H : cw_I S h) : cw_I S (h ++ js) := by
  obtain ⟨hs, o, nap, ds, gi, dss, hk⟩ := H
  exact ⟨hs.app, o, nap, ds, gi, dss, hk.f cw_f.rfl.app⟩
/-- the reference's and the law's cells are kept -/
def cw_fr (h h2 : nd_H) : Prop := h.length ≤ h2.length ∧ ∀ a, 101 ≤ a → a ≤ 122 → h2[a]? = h[a]?
theorem cw_fr.rfl {h : nd_H} : cw_fr h h := ⟨Nat.le_refl _, fun _ _ _ => Eq.refl _⟩
theorem cw_f.fr {h h2 : nd_H} (f : cw_f h h2) (hl : 123 ≤ h.length) : cw_fr h h2 := ⟨f.1, fun a h1 h3 => by
  have e : h[a]? = some h[a] := List.getElem?_eq_getElem (by omega)
  rw [e]; exact f.2 a _ e (cw_hi h1)⟩
/-- THE CONTRACT of a public method of the class against its operation -/
def cp_ok (g : nd_G) (mm : nd_Mt) (d mc ms : Nat) (argv : List Value) (ex : Nat → String) (f : sy_S → Nat × Option Value × sy_S) : Prop :=
  ∀ (S : sy_S) (h : nd_H) (K : nd_K), sy_ok S → cw_I S h → 123 ≤ h.length → ((f S).1 = 0 → ∀ h2, cw_I (f S).2.2 h2 → cw_fr h h2 → K (.inl (f S).2.1) h2) → ((f S).1 ≠ 0 → ∀ h2 k, cw_I (f S).2.2 h2 → cw_fr h h2 → K (.inr (ex (f S).1, k)) h2) → nd_M g mm d mc ms (.ref 0 :: argv) h K
def ex1 (a : String) : Nat → String := fun _ => a
def ex2 (a b : String) : Nat → String := fun k => if k = 1 then a else b
def ex3 (a b c : String) : Nat → String := fun k => if k = 1 then a else if k = 2 then b else c
abbrev eIAE : String := "java/lang/IllegalArgumentException"
abbrev eISE : String := "java/lang/IllegalStateException"
abbrev eNSE : String := "java/util/NoSuchElementException"
abbrev eIOB : String := "java/lang/IndexOutOfBoundsException"

