set_option maxRecDepth 100000
/-! ===== the class's reader: sums ===== -/
theorem su_at.mono {o : Nat → Nat} {h : nd_H} : ∀ {f f2 a : Nat} {s : List Nat}, f ≤ f2 → su_at o h f a s → su_at o h f2 a s := by
  intro f
  induction f with
  | zero => intro f2 a s _ H; exact H.elim
  | succ f ih =>
    intro f2 a s hf H
    obtain ⟨f3, rfl⟩ : ∃ f3, f2 = f3 + 1 := ⟨f2 - 1, by omega⟩
    obtain ⟨h1, h2⟩ := H
    refine ⟨h1, ?_⟩
    rcases h2 with z | z | ⟨ci, c, b1, b2, s1, s2, z1, z2, z3, z4, z5⟩
    · exact Or.inl z
    · exact Or.inr (Or.inl z)
    · exact Or.inr (Or.inr ⟨ci, c, b1, b2, s1, s2, z1, z2, ih (by omega) z3, ih (by omega) z4, z5⟩)
theorem tr_at.mono {o : Nat → Nat} {h : nd_H} : ∀ {F F2 f f2 a : Nat} {s : List Nat}, F ≤ F2 → f ≤ f2 → tr_at o h F f a s → tr_at o h F2 f2 a s := by
  intro F
  induction F with
  | zero => intro F2 f f2 a s _ _ H; exact H.elim
  | succ F ih =>
    intro F2 f f2 a s hF hf H
    obtain ⟨F3, rfl⟩ : ∃ F3, F2 = F3 + 1 := ⟨F2 - 1, by omega⟩
    obtain ⟨h1, h2⟩ := H
    refine ⟨h1, ?_⟩
    rcases h2 with ⟨f1, b, s1, z1, z2, z3, z4⟩ | ⟨f1, sg, c, b1, b2, s1, s2, z1, z2⟩ | ⟨f1, b1, b2, s1, s2, z1, z2, z3, z4, z5⟩ | ⟨f1, b1, b2, s1, s2, z1, z2, z3, z4, z5⟩
    · exact Or.inl ⟨f1, b, s1, by omega, z2, ih (by omega) (Nat.le_refl _) z3, z4⟩
    · exact Or.inr (Or.inl ⟨f1, sg, c, b1, b2, s1, s2, by omega, z2⟩)
    · exact Or.inr (Or.inr (Or.inl ⟨f1, b1, b2, s1, s2, by omega, z2, ih (by omega) (Nat.le_refl _) z3, ih (by omega) (Nat.le_refl _) z4, z5⟩))
    · exact Or.inr (Or.inr (Or.inr ⟨f1, b1, b2, s1, s2, by omega, z2, ih (by omega) (Nat.le_refl _) z3, ih (by omega) (Nat.le_refl _) z4, z5⟩))
theorem su_at.pos {o : Nat → Nat} {h : nd_H} {f a : Nat} {s : List Nat} (H : su_at o h f a s) : 1 ≤ f := by
  cases f with
  | zero => exact H.elim
  | succ f => omega
theorem su_at.at {o : Nat → Nat} {h : nd_H} {f a : Nat} {s : List Nat} (H : su_at o h f a s) : o a = 1 := by
  cases f with
  | zero => exact H.elim
  | succ f => exact H.1
theorem tr_at.pos {o : Nat → Nat} {h : nd_H} {F f a : Nat} {s : List Nat} (H : tr_at o h F f a s) : 1 ≤ f := by
  cases F with
  | zero => exact H.elim
  | succ F =>
    obtain ⟨-, h2⟩ := H
    rcases h2 with ⟨f1, b, s1, z1, -⟩ | ⟨f1, sg, c, b1, b2, s1, s2, z1, -⟩ | ⟨f1, b1, b2, s1, s2, z1, -⟩ | ⟨f1, b1, b2, s1, s2, z1, -⟩ <;> omega
/-- owners grow -/
def rd_o (o o2 : Nat → Nat) (h h2 : nd_H) : Prop := (∀ a, a < h.length → o2 a = o a) ∧ ∀ a, o2 a ≠ 0 → a < h2.length
theorem rd_o.trans {o o2 o3 : Nat → Nat} {h h2 h3 : nd_H} (a : rd_o o o2 h h2) (b : rd_o o2 o3 h2 h3) (hl : h.length ≤ h2.length) : rd_o o o3 h h3 := ⟨fun x hx => (b.1 x (by omega)).trans (a.1 x hx), b.2⟩
/-- a tree outlasts what comes behind it -/
theorem su_at.g {o o2 : Nat → Nat} {h h2 : nd_H} {r f a : Nat} {s : List Nat} (H : su_at o h f a s) (hol : ∀ a, o a ≠ 0 → a < h.length) (hr : o r ≠ 1) (ff : rd_f r h h2) (fo : ∀ a, a < h.length → o2 a = o a) : su_at o2 h2 f a s :=
  (H.k (fun x hx => ff.2 x (hol x (by omega)) (fun q => hr (by rw [← q]; exact hx)))).o2 (fun x hx => by rw [fo x (hol x (by omega))]; exact hx)
theorem tr_at.g {o o2 : Nat → Nat} {h h2 : nd_H} {r F f a : Nat} {s : List Nat} (H : tr_at o h F f a s) (hol : ∀ a, o a ≠ 0 → a < h.length) (hr : o r ≠ 1) (ff : rd_f r h h2) (fo : ∀ a, a < h.length → o2 a = o a) : tr_at o2 h2 F f a s :=
  (H.k (fun x hx => ff.2 x (hol x (by omega)) (fun q => hr (by rw [← q]; exact hx)))).o2 (fun x hx => by rw [fo x (hol x (by omega))]; exact hx)
/-- what reading costs -/
def rc (T : List Nat) (r : tx_R) (p : Nat) : Nat := match r with
  | .inl x => 2 * (x.2 - p)
  | .inr _ => 2 * (T.length - p) + 2
def rs (T : List Nat) (r : tx_R) (p : Nat) : Nat := match r with
  | .inl x => 4 * (x.2 - p)
  | .inr _ => 4 * (T.length - p) + 9
def rd_w (h : nd_H) (wr : Nat) : Prop := ∃ wf : Nat → Value, h[wr]? = some (.inl (9, 8, .inr (.inr wf))) ∧ ∀ k, k < 8 → wf k = nd_f k
/-- a method reads a sum, as f reads it -/
def rd_S (g : nd_G) (mm : nd_Mt) (d : Nat) (T : List Nat) (r wr md dp m : Nat) (f : Nat → tx_R) : Prop :=
  ∀ (o : Nat → Nat) (h : nd_H) (K : nd_K) (p : Nat), p ≤ T.length → rd_T h T → rd_w h wr → rd_R h r wr md T p dp m → o r ≠ 1 → (∀ a, o a ≠ 0 → a < h.length) →
    (∀ x, f p = .inl x → ∀ h2 o2 a, rd_R h2 r wr md T x.2 dp m → rd_f r h h2 → rd_o o o2 h h2 → su_at o2 h2 (x.2 - p) a x.1 → K (.inl (some (.ref a))) h2) → (∀ e, f p = .inr e → rd_E r h K e) → nd_M g mm d (rc T (f p) p) (rs T (f p) p) [.ref r] h K
/-- .. a truth -/
def rd_V (g : nd_G) (mm : nd_Mt) (d : Nat) (T : List Nat) (r wr md dp m : Nat) (f : Nat → tx_R) : Prop :=
  ∀ (o : Nat → Nat) (h : nd_H) (K : nd_K) (p : Nat), p ≤ T.length → rd_T h T → rd_w h wr → rd_R h r wr md T p dp m → o r ≠ 1 → (∀ a, o a ≠ 0 → a < h.length) →
    (∀ x, f p = .inl x → ∀ h2 o2 a, rd_R h2 r wr md T x.2 dp m → rd_f r h h2 → rd_o o o2 h h2 → (∃ F, tr_at o2 h2 F (x.2 - p) a x.1) → K (.inl (some (.ref a))) h2) → (∀ e, f p = .inr e → rd_E r h K e) → nd_M g mm d (rc T (f p) p) (rs T (f p) p) [.ref r] h K
theorem rd_w.f {h h2 : nd_H} {r wr : Nat} (H : rd_w h wr) (f : rd_f r h h2) (hr : wr ≠ r) : rd_w h2 wr := by
  obtain ⟨wf, a, b⟩ := H
  exact ⟨wf, (f.2 wr (nd_get_lt a) hr).trans a, b⟩
theorem rd_R.f {h h2 : nd_H} {r wr md p dp m : Nat} {T : List Nat} (H : rd_R h r wr md T p dp m) (e : h2[r]? = h[r]?) : rd_R h2 r wr md T p dp m := by
  obtain ⟨nu, a, b⟩ := H
  exact ⟨nu, e.trans a, b⟩
theorem rd_R.lt {h : nd_H} {r wr md p dp m : Nat} {T : List Nat} (H : rd_R h r wr md T p dp m) : r < h.length := by
  obtain ⟨nu, a, -⟩ := H
  exact nd_get_lt a
/-- one more tree cell -/
def oT (o : Nat → Nat) (L : Nat) : Nat → Nat := fun a => if a = L then 1 else o a
theorem tx_on_h {T : List Nat} {p : Nat} (h : tx_k T p ≠ 0) (hp : p ≤ T.length) : p + 1 ≤ tx_h T p ∧ tx_h T p ≤ T.length := by
  have h1 := tx_h_gt h
  have h2 := tx_b_ge T p
  exact ⟨by omega, tx_h_le T hp⟩
theorem tx_fw_k {T : List Nat} {p m : Nat} (hm : m ≤ 8) (hk : tx_k T p ≠ 1) : ∀ f k, tx_fw T p m f k = none := by
  intro f
  induction f with
  | zero => intro k; rfl
  | succ f ih =>
    intro k
    show (if m ≤ k then none else if tx_w T p (tx_ws.getD k []) = true then some k else tx_fw T p m f (k + 1)) = none
    split
    · rfl
    · rw [if_neg (fun z => hk (tx_w_k z))]
      exact ih _
theorem nd_str8 : ∀ k, k < 8 → ∃ rr, nd_str[k]? = some rr ∧ rr.2.2.2 = tx_ws.getD k [] := by
  intro k hk
  match k, hk with
  | 0, _ => exact ⟨_, rfl, rfl⟩
  | 1, _ => exact ⟨_, rfl, rfl⟩
  | 2, _ => exact ⟨_, rfl, rfl⟩
  | 3, _ => exact ⟨_, rfl, rfl⟩
  | 4, _ => exact ⟨_, rfl, rfl⟩
  | 5, _ => exact ⟨_, rfl, rfl⟩
  | 6, _ => exact ⟨_, rfl, rfl⟩
  | 7, _ => exact ⟨_, rfl, rfl⟩
theorem rc_bind {T : List Nat} {p q : Nat} {R : tx_R} {f : Nat → tx_R} (hpq : p ≤ q) (hq : q ≤ T.length) (hR : tx_gd T q R) (hf : tx_G T f) : rc T R q + 2 * (q - p) ≤ rc T (tx_bind R f) p ∧ rs T R q + 4 * (q - p) ≤ rs T (tx_bind R f) p := by
  cases R with
  | inr e =>
    show 2 * (T.length - q) + 2 + 2 * (q - p) ≤ 2 * (T.length - p) + 2 ∧ 4 * (T.length - q) + 9 + 4 * (q - p) ≤ 4 * (T.length - p) + 9
    omega
  | inl x =>
    have h1 : q + x.1.length ≤ x.2 ∧ x.2 ≤ T.length := hR
    have h2 := hf x.2 h1.2
    cases e : f x.2 with
    | inl y =>
      rw [e] at h2
      have h2 : x.2 + y.1.length ≤ y.2 ∧ y.2 ≤ T.length := h2
      have e2 : tx_bind (.inl x) f = .inl (x.1 ++ y.1, y.2) := by
        show (match f x.2 with | .inl y => (.inl (x.1 ++ y.1, y.2) : tx_R) | .inr e => .inr e) = _
        rw [e]
      rw [e2]
      show 2 * (x.2 - q) + 2 * (q - p) ≤ 2 * (y.2 - p) ∧ 4 * (x.2 - q) + 4 * (q - p) ≤ 4 * (y.2 - p)
      omega
    | inr y =>
      have e2 : tx_bind (.inl x) f = .inr y := by
        show (match f x.2 with | .inl y => (.inl (x.1 ++ y.1, y.2) : tx_R) | .inr e => .inr e) = _
        rw [e]
      rw [e2]
      show 2 * (x.2 - q) + 2 * (q - p) ≤ 2 * (T.length - p) + 2 ∧ 4 * (x.2 - q) + 4 * (q - p) ≤ 4 * (T.length - p) + 9
      omega
theorem chain_end {T : List Nat} {item : Nat → tx_R} {op : Nat → Option Nat} {fu q : Nat} {s1 : List Nat} (h : op q = none) : tx_bind (.inl (s1, q)) (tx_chain T item op (fu + 1)) = .inl (s1, q) := by
  show (match (match op q with | none => (.inl ([], q) : tx_R) | some c => tx_bind (tx_bind (tx_bind (tx_on T q) item) (tx_lay c)) (tx_chain T item op fu)) with | .inl y => (.inl (s1 ++ y.1, y.2) : tx_R) | .inr e => .inr e) = _
  rw [h]
  show (.inl (s1 ++ [], q) : tx_R) = _
  rw [List.append_nil]
theorem chain_ok {T : List Nat} {item : Nat → tx_R} {op : Nat → Option Nat} {fu q c : Nat} {s1 : List Nat} (h : op q = some c) : tx_bind (.inl (s1, q)) (tx_chain T item op (fu + 1)) = (match item (tx_h T q) with | .inl y => tx_bind (.inl (s1 ++ (y.1 ++ [c]), y.2)) (tx_chain T item op fu) | .inr e => .inr e) := by
  show (match (match op q with | none => (.inl ([], q) : tx_R) | some c => tx_bind (tx_bind (tx_bind (tx_on T q) item) (tx_lay c)) (tx_chain T item op fu)) with | .inl y => (.inl (s1 ++ y.1, y.2) : tx_R) | .inr e => .inr e) = _
  rw [h]
  show (match tx_bind (tx_bind (tx_bind (tx_on T q) item) (tx_lay c)) (tx_chain T item op fu) with | .inl y => (.inl (s1 ++ y.1, y.2) : tx_R) | .inr e => .inr e) = _
  rw [show tx_bind (tx_on T q) item = item (tx_h T q) from tx_bind_0 _ _]
  cases item (tx_h T q) with
  | inr e => rfl
  | inl y =>
    show (match tx_bind (.inl (y.1 ++ [c], y.2)) (tx_chain T item op fu) with | .inl y => (.inl (s1 ++ y.1, y.2) : tx_R) | .inr e => .inr e) = tx_bind (.inl (s1 ++ (y.1 ++ [c]), y.2)) (tx_chain T item op fu)
    show (match (match tx_chain T item op fu y.2 with | .inl z => (.inl ((y.1 ++ [c]) ++ z.1, z.2) : tx_R) | .inr e => .inr e) with | .inl y => (.inl (s1 ++ y.1, y.2) : tx_R) | .inr e => .inr e) = (match tx_chain T item op fu y.2 with | .inl z => (.inl ((s1 ++ (y.1 ++ [c])) ++ z.1, z.2) : tx_R) | .inr e => .inr e)
    cases tx_chain T item op fu y.2 with
    | inr e => rfl
    | inl z => simp only [List.append_assoc]
theorem chain_cost {T : List Nat} {item : Nat → tx_R} {op : Nat → Option Nat} {fu q c p : Nat} {s1 : List Nat} (hop : op q = some c) (hG : tx_G T item) (ho : ∀ p c, op p = some c → tx_k T p ≠ 0) (hpq : p ≤ q) (hq : q ≤ T.length) : rc T (item (tx_h T q)) (tx_h T q) + 2 * (tx_h T q - p) ≤ rc T (tx_bind (.inl (s1, q)) (tx_chain T item op (fu + 1))) p ∧ rs T (item (tx_h T q)) (tx_h T q) + 4 * (tx_h T q - p) ≤ rs T (tx_bind (.inl (s1, q)) (tx_chain T item op (fu + 1))) p := by
  have hh := tx_on_h (T := T) (p := q) (ho q c hop) hq
  have h1 := hG (tx_h T q) hh.2
  rw [chain_ok hop]
  cases e : item (tx_h T q) with
  | inr y =>
    show 2 * (T.length - tx_h T q) + 2 + 2 * (tx_h T q - p) ≤ 2 * (T.length - p) + 2 ∧ 4 * (T.length - tx_h T q) + 9 + 4 * (tx_h T q - p) ≤ 4 * (T.length - p) + 9
    omega
  | inl y =>
    rw [e] at h1
    have h1 : tx_h T q + y.1.length ≤ y.2 ∧ y.2 ≤ T.length := h1
    have h2 := (tx_G_chain (op := op) hG ho fu) y.2 h1.2
    show 2 * (y.2 - tx_h T q) + 2 * (tx_h T q - p) ≤ rc T (tx_bind (.inl (s1 ++ (y.1 ++ [c]), y.2)) (tx_chain T item op fu)) p ∧ 4 * (y.2 - tx_h T q) + 4 * (tx_h T q - p) ≤ rs T (tx_bind (.inl (s1 ++ (y.1 ++ [c]), y.2)) (tx_chain T item op fu)) p
    cases e2 : tx_chain T item op fu y.2 with
    | inr z =>
      have e3 : tx_bind (.inl (s1 ++ (y.1 ++ [c]), y.2)) (tx_chain T item op fu) = .inr z := by
        show (match tx_chain T item op fu y.2 with | .inl z => (.inl ((s1 ++ (y.1 ++ [c])) ++ z.1, z.2) : tx_R) | .inr e => .inr e) = _
        rw [e2]
      rw [e3]
      show _ ≤ 2 * (T.length - p) + 2 ∧ _ ≤ 4 * (T.length - p) + 9
      omega
    | inl z =>
      rw [e2] at h2
      have h2 : y.2 + z.1.length ≤ z.2 ∧ z.2 ≤ T.length := h2
      have e3 : tx_bind (.inl (s1 ++ (y.1 ++ [c]), y.2)) (tx_chain T item op fu) = .inl ((s1 ++ (y.1 ++ [c])) ++ z.1, z.2) := by
        show (match tx_chain T item op fu y.2 with | .inl z => (.inl ((s1 ++ (y.1 ++ [c])) ++ z.1, z.2) : tx_R) | .inr e => .inr e) = _
        rw [e2]
      rw [e3]
      show _ ≤ 2 * (z.2 - p) ∧ _ ≤ 4 * (z.2 - p)
      omega
theorem rc_ge {T : List Nat} {p q : Nat} {s1 : List Nat} {f : Nat → tx_R} (hpq : p ≤ q) (hq : q ≤ T.length) (hf : tx_G T f) : 2 * (q - p) ≤ rc T (tx_bind (.inl (s1, q)) f) p ∧ 4 * (q - p) ≤ rs T (tx_bind (.inl (s1, q)) f) p := by
  have h2 := hf q hq
  cases e : f q with
  | inr y =>
    have e2 : tx_bind (.inl (s1, q)) f = .inr y := by
      show (match f q with | .inl y => (.inl (s1 ++ y.1, y.2) : tx_R) | .inr e => .inr e) = _
      rw [e]
    rw [e2]
    show 2 * (q - p) ≤ 2 * (T.length - p) + 2 ∧ 4 * (q - p) ≤ 4 * (T.length - p) + 9
    omega
  | inl y =>
    rw [e] at h2
    have h2 : q + y.1.length ≤ y.2 ∧ y.2 ≤ T.length := h2
    have e2 : tx_bind (.inl (s1, q)) f = .inl (s1 ++ y.1, y.2) := by
      show (match f q with | .inl y => (.inl (s1 ++ y.1, y.2) : tx_R) | .inr e => .inr e) = _
      rw [e]
    rw [e2]
    show 2 * (q - p) ≤ 2 * (y.2 - p) ∧ 4 * (q - p) ≤ 4 * (y.2 - p)
    omega
theorem tx_or_len {T : List Nat} {p : Nat} (h : tx_w T p tx_or = true) : p + 2 ≤ tx_h T p := by
  unfold tx_w at h
  rw [Bool.and_eq_true, Bool.and_eq_true, decide_eq_true_iff, decide_eq_true_iff] at h
  have h1 : tx_h T p - tx_b T p = 2 := h.1.2
  have := tx_b_ge T p
  omega
theorem rd_f.setL {r L : Nat} {h h3 : nd_H} {c : nd_C} (f : rd_f r h h3) (hL : h.length ≤ L) : rd_f r h (h3.set L c) := ⟨by rw [List.length_set]; exact f.1, fun a z1 z2 => (List.getElem?_set_ne (by omega)).trans (f.2 a z1 z2)⟩
theorem rd_o.setL {o o3 : Nat → Nat} {h h3 : nd_H} {L : Nat} {c : nd_C} (O : rd_o o o3 h h3) (hL : h.length ≤ L) (hL3 : L < h3.length) : rd_o o (oT o3 L) h (h3.set L c) := by
  refine ⟨fun a ha => ?_, fun a ha => ?_⟩
  · unfold oT; rw [if_neg (by omega)]; exact O.1 a ha
  · rw [List.length_set]
    unfold oT at ha
    by_cases q : a = L
    · omega
    · rw [if_neg q] at ha; exact O.2 a ha
theorem rd_o.pre {o o3 : Nat → Nat} {h h1 h3 : nd_H} (O : rd_o o o3 h1 h3) (hl : h.length ≤ h1.length) : rd_o o o3 h h3 := ⟨fun a ha => O.1 a (by omega), O.2⟩
theorem su_node {o1 o3 : Nat → Nat} {h1 h3 : nd_H} {r L a1 b3 f1 f2 f ci c : Nat} {s1 s2 : List Nat} (hci : ci = nX14 ∧ c = 10 ∨ ci = nX15 ∧ c = 11 ∨ ci = nX13 ∧ c = 12) (eL : L = h1.length) (A : su_at o1 h1 f1 a1 s1) (hol : ∀ a, o1 a ≠ 0 → a < h1.length) (hr : o1 r ≠ 1) (F : rd_f r h1 h3) (O : ∀ a, a ≤ h1.length → o3 a = o1 a) (B : su_at o3 h3 f2 b3 s2) (hL : L < h3.length) (hf1 : f1 + 1 ≤ f) (hf2 : f2 + 1 ≤ f) : su_at (oT o3 L) (h3.set L (.inr (ci, [.ref a1, .ref b3]))) f L (s1 ++ (s2 ++ [c])) := by
  have z3 : o3 L = 0 := by
    rw [O L (by omega)]
    by_cases q : o1 L = 0
    · exact q
    · have := hol L q; omega
  have A3 : su_at o3 h3 f1 a1 s1 := A.g hol hr F (fun a ha => O a (by omega))
  have kk : ∀ {g a : Nat} {s : List Nat}, su_at o3 h3 g a s → su_at (oT o3 L) (h3.set L (.inr (ci, [.ref a1, .ref b3]))) g a s := fun H => (H.k (fun x hx => List.getElem?_set_ne (by intro q; rw [← q, z3] at hx; omega))).o2 (fun x hx => by unfold oT; split <;> first | rfl | exact hx)
  obtain ⟨f', rfl⟩ : ∃ f', f = f' + 1 := ⟨f - 1, by omega⟩
  exact ⟨by unfold oT; rw [if_pos rfl], Or.inr (Or.inr ⟨ci, c, a1, b3, s1, s2, hci, List.getElem?_set_self hL, su_at.mono (by omega) (kk A3), su_at.mono (by omega) (kk B), by rw [List.append_assoc]⟩)⟩
theorem tr_both {o1 o3 : Nat → Nat} {h1 h3 : nd_H} {r L a1 b3 f1 f2 f FA FB : Nat} {s1 s2 : List Nat} (eL : L = h1.length) (A : tr_at o1 h1 FA f1 a1 s1) (hol : ∀ a, o1 a ≠ 0 → a < h1.length) (hr : o1 r ≠ 1) (F : rd_f r h1 h3) (O : ∀ a, a ≤ h1.length → o3 a = o1 a) (B : tr_at o3 h3 FB f2 b3 s2) (hL : L < h3.length) (hf1 : f1 + 1 ≤ f) (hf2 : f2 + 1 ≤ f) : ∃ G, tr_at (oT o3 L) (h3.set L (.inr (nX18, [.ref a1, .ref b3]))) G f L (s1 ++ (s2 ++ [16])) := by
  have z3 : o3 L = 0 := by
    rw [O L (by omega)]
    by_cases q : o1 L = 0
    · exact q
    · have := hol L q; omega
  have A3 : tr_at o3 h3 FA f1 a1 s1 := A.g hol hr F (fun a ha => O a (by omega))
  have kk : ∀ {G g a : Nat} {s : List Nat}, tr_at o3 h3 G g a s → tr_at (oT o3 L) (h3.set L (.inr (nX18, [.ref a1, .ref b3]))) G g a s := fun H => (H.k (fun x hx => List.getElem?_set_ne (by intro q; rw [← q, z3] at hx; omega))).o2 (fun x hx => by unfold oT; split <;> first | rfl | exact hx)
  exact ⟨max FA FB + 1, by unfold oT; rw [if_pos rfl], Or.inr (Or.inr (Or.inl ⟨f - 1, a1, b3, s1, s2, by omega, List.getElem?_set_self hL, tr_at.mono (by omega) (by omega) (kk A3), tr_at.mono (by omega) (by omega) (kk B), by rw [List.append_assoc]⟩))⟩
def oE (o : Nat → Nat) (L M : Nat) : Nat → Nat := fun a => if a = L ∨ a = M ∨ a = M + 1 then 1 else o a
theorem rd_o.setE {o o3 : Nat → Nat} {h h3 : nd_H} {L : Nat} {c c1 c2 : nd_C} (O : rd_o o o3 h h3) (hL : h.length ≤ L) (hL3 : L < h3.length) : rd_o o (oE o3 L h3.length) h (((h3 ++ [c1]) ++ [c2]).set L c) := by
  refine ⟨fun a ha => ?_, fun a ha => ?_⟩
  · unfold oE; rw [if_neg (by omega)]; exact O.1 a ha
  · rw [List.length_set, List.length_append, List.length_append]
    unfold oE at ha
    show a < h3.length + 1 + 1
    by_cases q : a = L ∨ a = h3.length ∨ a = h3.length + 1
    · omega
    · rw [if_neg q] at ha
      have := O.2 a ha
      omega
theorem tr_either {o1 o3 : Nat → Nat} {h1 h3 : nd_H} {r L a1 b3 f1 f2 f FA FB : Nat} {s1 s2 : List Nat} (eL : L = h1.length) (A : tr_at o1 h1 FA f1 a1 s1) (hol : ∀ a, o1 a ≠ 0 → a < h1.length) (hr : o1 r ≠ 1) (F : rd_f r h1 h3) (O : ∀ a, a ≤ h1.length → o3 a = o1 a) (hol3 : ∀ a, o3 a ≠ 0 → a < h3.length) (B : tr_at o3 h3 FB f2 b3 s2) (hL : L < h3.length) (hf1 : f1 + 3 ≤ f) (hf2 : f2 + 3 ≤ f) : ∃ G, tr_at (oE o3 L h3.length) (((h3 ++ [(.inr (nX16, [.ref a1]) : nd_C)]) ++ [(.inr (nX16, [.ref b3]) : nd_C)]).set L (.inr (nX19, [.ref h3.length, .ref (h3.length + 1)]))) G f L (s1 ++ (s2 ++ [17])) := by
  have z3 : o3 L = 0 := by
    rw [O L (by omega)]
    by_cases q : o1 L = 0
    · exact q
    · have := hol L q; omega
  have A3 : tr_at o3 h3 FA f1 a1 s1 := A.g hol hr F (fun a ha => O a (by omega))
  have hlen : ((h3 ++ [(.inr (nX16, [.ref a1]) : nd_C)]) ++ [(.inr (nX16, [.ref b3]) : nd_C)]).length = h3.length + 2 := by rw [List.length_append, List.length_append]; rfl
  have kk : ∀ {G g a : Nat} {s : List Nat}, tr_at o3 h3 G g a s → tr_at (oE o3 L h3.length) (((h3 ++ [(.inr (nX16, [.ref a1]) : nd_C)]) ++ [(.inr (nX16, [.ref b3]) : nd_C)]).set L (.inr (nX19, [.ref h3.length, .ref (h3.length + 1)]))) G g a s := fun H => (H.k (fun x hx => by
    have hx3 := hol3 x (by omega)
    rw [List.getElem?_set_ne (by intro q; rw [← q, z3] at hx; omega), List.getElem?_append_left (by rw [List.length_append]; show x < h3.length + 1; omega)]
    exact List.getElem?_append_left hx3)).o2 (fun x hx => by unfold oE; split <;> first | rfl | exact hx)
  have c1 : (((h3 ++ [(.inr (nX16, [.ref a1]) : nd_C)]) ++ [(.inr (nX16, [.ref b3]) : nd_C)]).set L (.inr (nX19, [.ref h3.length, .ref (h3.length + 1)])))[h3.length]? = some (.inr (nX16, [.ref a1])) := by
    rw [List.getElem?_set_ne (by omega), List.getElem?_append_left (by rw [List.length_append]; show h3.length < h3.length + 1; omega)]
    exact l_at_last
  have c2 : (((h3 ++ [(.inr (nX16, [.ref a1]) : nd_C)]) ++ [(.inr (nX16, [.ref b3]) : nd_C)]).set L (.inr (nX19, [.ref h3.length, .ref (h3.length + 1)])))[h3.length + 1]? = some (.inr (nX16, [.ref b3])) := by
    rw [List.getElem?_set_ne (by omega), show h3.length + 1 = (h3 ++ [(.inr (nX16, [.ref a1]) : nd_C)]).length by rw [List.length_append]; rfl]
    exact l_at_last
  refine ⟨max FA FB + 2, by unfold oE; rw [if_pos (Or.inl rfl)], Or.inr (Or.inr (Or.inr ⟨f - 2, h3.length, h3.length + 1, s1, s2, by omega, List.getElem?_set_self (by omega), ?_, ?_, by rw [List.append_assoc]⟩))⟩
  · exact ⟨by unfold oE; rw [if_pos (by omega)], Or.inl ⟨f - 3, a1, s1, by omega, c1, tr_at.mono (by omega) (by omega) (kk A3), rfl⟩⟩
  · exact ⟨by unfold oE; rw [if_pos (by omega)], Or.inl ⟨f - 3, b3, s2, by omega, c2, tr_at.mono (by omega) (by omega) (kk B), rfl⟩⟩
section RD97
variable {g : nd_G} {d : Nat} {T : List Nat} {r wr md dp m : Nat}
theorem rd_atom (hg : nd_OK g) (hd : 10 ≤ d) (hr : r ≠ 92) (hwr : wr ≠ r) (hm : m ≤ 8) {k : Nat} (hdp : dp + k = 6) (hrec : ∀ k2, k = k2 + 1 → rd_S g mX8_sum (d - 1) T r wr md (dp + 1) m (tx_sum T m k2)) : rd_S g mX8_atom d T r wr md dp m (tx_atom T m (tx_dn (tx_sum T m) k)) := by
  intro o h K p hp hT hw hR hro hol hk he
  have hrl := hR.lt
  obtain ⟨nu, hb, -⟩ := id hR
  have kl := kd_le (tx_k T p)
  have hwd : tx_word T m p = tx_fw T p m 9 0 := rfl
  by_cases z2 : tx_k T p = 2
  · have ef : tx_atom T m (tx_dn (tx_sum T m) k) p = .inl ([1000 + tx_v T p], tx_h T p) := by
      unfold tx_atom
      rw [hwd, tx_fw_k hm (by omega) 9 0]
      show (if tx_k T p = 40 then _ else if tx_k T p = 2 then tx_bind (tx_on T p) (tx_lay (1000 + tx_v T p)) else _) = _
      rw [if_neg (by omega), if_pos z2]
      rfl
    rw [ef] at hk he ⊢
    have hh := tx_on_h (T := T) (p := p) (by omega) hp
    have hv := (tx_v_lt T p z2).1
    show nd_M g mX8_atom d (2 * (tx_h T p - p)) (4 * (tx_h T p - p)) _ _ _
    have b1 : ∀ c : nd_C, (h ++ [c])[r]? = h[r]? := fun c => List.getElem?_append_left hrl
    refine nd_enter hg (by decide) rfl (Nat.le_of_ble_eq_true rfl) (fun X hC => ?_)
    refine nd_aload_n hC dX8_atom_0 rfl rfl ?_
    refine nd_get (ci := nX8) hC in_X8 rfl hb 6 (by decide) q1630 (fun _ z => z) rfl dX8_atom_1 ?_
    refine nd_iconst hC (v := nI 2) (by rfl) dX8_atom_4 ?_
    first | with_reducible refine nd_icmp_neN hC (tgt := 24) (by omega) (by omega) dX8_atom_5 (by decide) (fun hq => ?_) (fun hq => ?_) | refine nd_icmp_ne hC (tgt := 24) dX8_atom_5 (by decide) (fun hq => ?_) (fun hq => ?_)
    · exact absurd (kd_2.2 z2) hq
    refine nd_new (ci := nX10) hC [.int 0] in_X10 rfl tyX10 tyX10_ok q1789 q1790 q177 rfl rfl (by omega) (by omega) dX8_atom_8 ?_
    have hR1 : rd_R (h ++ [.inr (nX10, [.int 0])]) r wr md T p dp m := hR.f (b1 _)
    have hT1 := hT.f (rd_f.app (r := r) (js := [.inr (nX10, [.int 0])])) hr
    obtain ⟨nu1, hb1, -⟩ := id hR1
    refine nd_dup hC (by rfl) dX8_atom_11 ?_
    refine nd_aload_n hC dX8_atom_12 rfl rfl ?_
    refine nd_iconst hC (v := nI 0) (by rfl) dX8_atom_13 ?_
    refine nd_sipush hC (v := nI 999) (by rfl) dX8_atom_14 ?_
    refine nd_callV (mm2 := mX8_number) (As := [_, _]) (mc2 := 0) (ms2 := 0) (d2 := d - 1) hC rfl lkX8_118 ⟨rfl, lmX8_number⟩ (hb1) rfl (Nat.le_of_ble_eq_true rfl) (by omega) rfl (by exact Nat.le_of_ble_eq_true rfl) (by omega) (by omega) dX8_atom_17 rfl ((rd_num1 hg (by omega) hT1 hr hp hR1 (by omega) z2 (by omega) (fun h2 a b e => ?_)))
    have eL : h2.length = h.length + 1 := by rw [e, List.length_append]; rfl
    have cL : h2[h.length]? = some (.inr (nX10, [.int 0])) := (b.2 h.length (by rw [List.length_append]; show h.length < h.length + 1; omega) (by omega)).trans l_at_last
    refine nd_callI (mm2 := mX10_init) (As := [_]) (mc2 := 0) (ms2 := 0) (d2 := d - 1) hC rfl rfl q1793 q177 q1791 q1792 rfl lmX10_init (Nat.le_of_ble_eq_true rfl) (by omega) rfl (by exact Nat.le_of_ble_eq_true rfl) (by omega) (by omega) dX8_atom_20 rfl ((ni_X10 hg cL ?_))
    refine nd_areturn hC rfl (Or.inl ⟨_, rfl⟩) rfl (by omega) (by omega) dX8_atom_23 (hk _ rfl _ (oT o h.length) _ (a.f (List.getElem?_set_ne (by omega))) ⟨by rw [List.length_set]; omega, fun x hx hxr => ?_⟩ ⟨fun x hx => ?_, fun x hx => ?_⟩ ?_)
    · rw [List.getElem?_set_ne (by omega), b.2 x (by rw [List.length_append]; omega) hxr]; exact List.getElem?_append_left hx
    · unfold oT; rw [if_neg (by omega)]
    · rw [List.length_set]
      unfold oT at hx
      by_cases q : x = h.length
      · omega
      · rw [if_neg q] at hx
        have := hol x hx
        omega
    · refine su_at.mono (f := 1) (by show 1 ≤ tx_h T p - p; omega) ⟨by unfold oT; rw [if_pos rfl], Or.inl ⟨tx_v T p, by omega, List.getElem?_set_self (by omega), rfl⟩⟩
  have hn2 : ¬ kd (tx_k T p) = 2 := fun y => z2 (kd_2.1 y)
  generalize hmc : rc T (tx_atom T m (tx_dn (tx_sum T m) k) p) p = mc
  generalize hms : rs T (tx_atom T m (tx_dn (tx_sum T m) k) p) p = ms
  refine nd_enter hg (by decide) rfl (Nat.le_of_ble_eq_true rfl) (fun X hC => ?_)
  obtain ⟨wf, hwa, hwb⟩ := id hw
  refine nd_aload_n hC dX8_atom_0 rfl rfl ?_
  refine nd_get (ci := nX8) hC in_X8 rfl hb 6 (by decide) q1630 (fun _ z => z) rfl dX8_atom_1 ?_
  refine nd_iconst hC (v := nI 2) (by rfl) dX8_atom_4 ?_
  first | with_reducible refine nd_icmp_neN hC (tgt := 24) (by omega) (by omega) dX8_atom_5 (by decide) (fun hq => ?_) (fun hq => ?_) | refine nd_icmp_ne hC (tgt := 24) dX8_atom_5 (by decide) (fun hq => ?_) (fun hq => ?_)
  rotate_left
  · omega
  refine nd_iconst hC (v := nI 0) (by rfl) dX8_atom_24 ?_
  refine nd_istore_n hC dX8_atom_25 (Nat.le_of_ble_eq_true rfl) ?_
  have hmle : m ≤ 8 := hm
  have LP : ∀ j, j ≤ m → tx_word T m p = tx_fw T p m (9 - j) j → nd_W g mX8_atom d mc ms K X 26 [some (.ref r), some (.int (nI j))] [] h 0 0 := by
    refine nd_for _ _ ?_ ?_
    · intro ew
      have ewn : tx_word T m p = none := by
        rw [ew]
        obtain ⟨q, hq9⟩ : ∃ q, 9 - m = q + 1 := ⟨8 - m, by omega⟩
        rw [hq9]
        show (if m ≤ m then none else _) = none
        rw [if_pos (Nat.le_refl _)]
      have ef : tx_atom T m (tx_dn (tx_sum T m) k) p = if tx_k T p = 40 then (match tx_dn (tx_sum T m) k with | none => .inr (4, tx_b T p) | some r => tx_bind (tx_bind (tx_on T p) r) (tx_must T 41)) else .inr (tx_e T p 2) := by
        unfold tx_atom
        rw [ewn]
        show (if tx_k T p = 40 then _ else if tx_k T p = 2 then _ else _) = _
        rw [if_neg (c := tx_k T p = 2) z2]
        rfl
      rw [ef] at hk he hmc hms
      refine nd_iload_n hC dX8_atom_26 rfl ?_
      refine nd_aload_n hC dX8_atom_27 rfl rfl ?_
      refine nd_get (ci := nX8) hC in_X8 rfl hb 9 (by decide) q1633 (fun _ z => z) rfl dX8_atom_28 ?_
      first | with_reducible refine nd_icmp_geN hC (tgt := 62) (by omega) (by omega) dX8_atom_31 (by decide) (fun hq1 => ?_) (fun hq1 => ?_) | refine nd_icmp_ge hC (tgt := 62) dX8_atom_31 (by decide) (fun hq1 => ?_) (fun hq1 => ?_)
      rotate_left
      · omega
      refine nd_aload_n hC dX8_atom_62 rfl rfl ?_
      refine nd_bipush hC (v := nI 40) (by rfl) dX8_atom_63 ?_
      refine nd_callV (mm2 := mX8_is_2) (As := [_]) (mc2 := 0) (ms2 := 0) (d2 := d - 1) hC rfl lkX8_88 ⟨rfl, lmX8_is_2⟩ (hb) rfl (Nat.le_of_ble_eq_true rfl) (by omega) rfl (by exact Nat.le_of_ble_eq_true rfl) (by omega) (by omega) dX8_atom_65 rfl ((rd_isC hg hT hR (by omega) (by omega) ?_))
      by_cases z40 : tx_k T p = 40
      rotate_left
      · rw [decide_eq_false z40]
        rw [if_neg z40] at he hmc hms
        have hmc : 2 * (T.length - p) + 2 = mc := hmc
        have hms : 4 * (T.length - p) + 9 = ms := hms
        refine nd_if_neB hC (tgt := 76) dX8_atom_68 (by decide) (fun hq => absurd hq (by decide)) (fun _ => ?_)
        refine nd_aload_n hC dX8_atom_71 rfl rfl ?_
        refine nd_callV (mm2 := mX8_wrong) (As := []) (mc2 := 1) (ms2 := 8) (d2 := d - 1) hC rfl lkX8_94 ⟨rfl, lmX8_wrong⟩ (hb) rfl (Nat.le_of_ble_eq_true rfl) (by omega) rfl (by exact Nat.le_of_ble_eq_true rfl) (by omega) (by omega) dX8_atom_72 rfl ((rd_wrong hg (by omega) hR (fun h2 k f2 b2 => ?_)))
        exact nd_athrow hC b2 rfl dX8_atom_75 (nd_out hC rfl (by omega) (by omega) (he _ rfl h2 k f2 b2))
      rw [decide_eq_true z40]
      rw [if_pos z40] at hk he hmc hms
      have hh := tx_on_h (T := T) (p := p) (by omega) hp
      refine nd_if_neB hC (tgt := 76) dX8_atom_68 (by decide) (fun _ => ?_) (fun hq => absurd hq (by decide))
      refine nd_aload_n hC dX8_atom_76 rfl rfl ?_
      cases k with
      | zero =>
        have e6 : dp = 6 := by omega
        subst e6
        have hmc : 2 * (T.length - p) + 2 = mc := hmc
        have hms : 4 * (T.length - p) + 9 = ms := hms
        refine nd_callV (mm2 := mX8_deeper) (As := []) (mc2 := 1) (ms2 := 8) (d2 := d - 1) hC rfl lkX8_130 ⟨rfl, lmX8_deeper⟩ (hb) rfl (Nat.le_of_ble_eq_true rfl) (by omega) rfl (by exact Nat.le_of_ble_eq_true rfl) (by omega) (by omega) dX8_atom_77 rfl ((rd_deeper0 hg (by omega) hR ?_))
        intro h2 k f2 b2
        exact nd_out hC rfl (by omega) (by omega) (he _ rfl h2 k f2 b2)
      | succ k2 =>
        have hk : ∀ x, tx_bind (tx_bind (tx_on T p) (tx_sum T m k2)) (tx_must T 41) = .inl x → ∀ h2 o2 a, rd_R h2 r wr md T x.2 dp m → rd_f r h h2 → rd_o o o2 h h2 → su_at o2 h2 (x.2 - p) a x.1 → K (.inl (some (.ref a))) h2 := hk
        have he : ∀ e, tx_bind (tx_bind (tx_on T p) (tx_sum T m k2)) (tx_must T 41) = .inr e → rd_E r h K e := he
        have hmc : rc T (tx_bind (tx_bind (tx_on T p) (tx_sum T m k2)) (tx_must T 41)) p = mc := hmc
        have hms : rs T (tx_bind (tx_bind (tx_on T p) (tx_sum T m k2)) (tx_must T 41)) p = ms := hms
        rw [show tx_bind (tx_on T p) (tx_sum T m k2) = tx_sum T m k2 (tx_h T p) from tx_bind_0 _ _] at hk he hmc hms
        have IH := hrec k2 rfl
        have hGs := tx_G_sum T m k2 (tx_h T p) hh.2
        have hc9 := rc_bind (p := p) (by omega) hh.2 hGs (tx_G_must T 41)
        refine nd_callV (mm2 := mX8_deeper) (As := []) (mc2 := 0) (ms2 := 0) (d2 := d - 1) hC rfl lkX8_130 ⟨rfl, lmX8_deeper⟩ (hb) rfl (Nat.le_of_ble_eq_true rfl) (by omega) rfl (by exact Nat.le_of_ble_eq_true rfl) (by omega) (by omega) dX8_atom_77 rfl ((rd_deeper1 hg (by omega) hT hr hp hR (by omega) (fun h1 a1 f1 e1 => ?_)))
        have hT1 := hT.f f1 hr
        have hw1 := hw.f f1 hwr
        obtain ⟨nu1, hb1, -⟩ := id a1
        refine nd_aload_n hC dX8_atom_80 rfl rfl ?_
        refine nd_callV (mm2 := mX8_sum) (As := []) (mc2 := rc T (tx_sum T m k2 (tx_h T p)) (tx_h T p)) (ms2 := rs T (tx_sum T m k2 (tx_h T p)) (tx_h T p)) (d2 := d - 1) hC rfl lkX8_133 ⟨rfl, lmX8_sum⟩ (hb1) rfl (Nat.le_of_ble_eq_true rfl) (by omega) rfl (by exact Nat.le_of_ble_eq_true rfl) (by omega) (by omega) dX8_atom_81 rfl ((IH o h1 _ (tx_h T p) hh.2 hT1 hw1 a1 hro (fun a ha => by rw [e1]; exact hol a ha) (fun x ex h2 o2 a aR af ao asu => ?_) (fun e ee => ?_)))
        rotate_left
        · intro h2 k f2 b2
          exact nd_out hC rfl (by omega) (by omega) (he e (by rw [ee]; rfl) h2 k (f1.trans f2) b2)
        rw [ex] at hk he hmc hms hGs hc9
        have hGs : tx_h T p + x.1.length ≤ x.2 ∧ x.2 ≤ T.length := hGs
        have ec : rc T (tx_sum T m k2 (tx_h T p)) (tx_h T p) = 2 * (x.2 - tx_h T p) := by rw [ex]; rfl
        have es : rs T (tx_sum T m k2 (tx_h T p)) (tx_h T p) = 4 * (x.2 - tx_h T p) := by rw [ex]; rfl
        have hT2 := hT1.f af hr
        obtain ⟨nu2, hb2, -⟩ := id aR
        refine nd_astore_n hC dX8_atom_84 (Nat.le_of_ble_eq_true rfl) rfl ?_
        refine nd_aload_n hC dX8_atom_85 rfl rfl ?_
        refine nd_bipush hC (v := nI 41) (by rfl) dX8_atom_86 ?_
        by_cases z41 : tx_k T x.2 = 41
        · have e9 : tx_bind (.inl x) (tx_must T 41) = .inl (x.1 ++ [], tx_h T x.2) := by
            show (match tx_must T 41 x.2 with | .inl y => (.inl (x.1 ++ y.1, y.2) : tx_R) | .inr e => .inr e) = _
            unfold tx_must
            rw [if_pos z41]
          rw [e9] at hk hmc hms
          have hmc : 2 * (tx_h T x.2 - p) = mc := hmc
          have hms : 4 * (tx_h T x.2 - p) = ms := hms
          have hh2 := tx_on_h (T := T) (p := x.2) (by omega) hGs.2
          refine nd_callV (mm2 := mX8_must_2) (As := [_]) (mc2 := 0) (ms2 := 0) (d2 := d - 1) hC rfl lkX8_137 ⟨rfl, lmX8_must_2⟩ (hb2) rfl (Nat.le_of_ble_eq_true rfl) (by omega) rfl (by exact Nat.le_of_ble_eq_true rfl) (by omega) (by omega) dX8_atom_88 rfl ((rd_mustC1 hg (by omega) hT2 hr hGs.2 aR (by omega) (by omega) z41 (fun h3 a3 f3 e3 => ?_)))
          obtain ⟨nu3, hb3, hn3⟩ := id a3
          refine nd_aload_n hC dX8_atom_91 rfl rfl ?_
          refine nd_dup hC (by rfl) dX8_atom_92 ?_
          refine nd_get (ci := nX8) hC in_X8 rfl hb3 8 (by decide) q1632 (fun _ z => z) rfl dX8_atom_93 ?_
          refine nd_iconst hC (v := nI 1) (by rfl) dX8_atom_96 ?_
          first | with_reducible refine nd_isubN hC (by omega) dX8_atom_97 ?_ | refine nd_isub hC dX8_atom_97 ?_
          refine nd_put (ci := nX8) hC in_X8 rfl hb3 8 (by decide) tyX8 tyX8_ok (by decide +kernel) q1632 (fun _ z => z) rfl rfl rfl (by show 8 < 10; decide) dX8_atom_98 ?_
          refine nd_aload_n hC dX8_atom_101 rfl rfl ?_
          refine nd_areturn hC rfl (Or.inl ⟨_, rfl⟩) rfl (by omega) (by omega) dX8_atom_102 (hk _ rfl _ o2 a ⟨nu3, List.getElem?_set_self (nd_get_lt hb3), hn3⟩ (f1.trans (af.trans (f3.trans rd_f.set))) ⟨fun y hy => (ao.1 y (by have := f1.1; omega)), fun y hy => by rw [List.length_set, e3]; exact ao.2 y hy⟩ ?_)
          rw [List.append_nil]
          have hrl2 : r < h2.length := nd_get_lt hb2
          exact su_at.mono (by show x.2 - tx_h T p ≤ tx_h T x.2 - p; omega) (asu.g ao.2 (by rw [ao.1 r (by have := f1.1; omega)]; exact hro) (f3.trans rd_f.set) (fun _ _ => rfl))
        · have e9 : tx_bind (.inl x) (tx_must T 41) = .inr (tx_e T x.2 2) := by
            show (match tx_must T 41 x.2 with | .inl y => (.inl (x.1 ++ y.1, y.2) : tx_R) | .inr e => .inr e) = _
            unfold tx_must
            rw [if_neg z41]
          rw [e9] at he hmc hms
          have hmc : 2 * (T.length - p) + 2 = mc := hmc
          have hms : 4 * (T.length - p) + 9 = ms := hms
          refine nd_callV (mm2 := mX8_must_2) (As := [_]) (mc2 := 1) (ms2 := 8) (d2 := d - 1) hC rfl lkX8_137 ⟨rfl, lmX8_must_2⟩ (hb2) rfl (Nat.le_of_ble_eq_true rfl) (by omega) rfl (by exact Nat.le_of_ble_eq_true rfl) (by omega) (by omega) dX8_atom_88 rfl ((rd_mustC0 hg (by omega) hT2 hr hGs.2 aR (by omega) (by omega) z41 ?_))
          intro h3 k f3 b3
          exact nd_out hC rfl (by omega) (by omega) (he _ rfl h3 k (f1.trans (af.trans f3)) b3)
    · intro j hj ih ew
      obtain ⟨rr, hrr, er⟩ := nd_str8 j (by omega)
      have ew2 : tx_word T m p = if tx_w T p (tx_ws.getD j []) = true then some j else tx_fw T p m (9 - (j + 1)) (j + 1) := by
        rw [ew]
        obtain ⟨q, hq9⟩ : ∃ q, 9 - j = q + 1 := ⟨8 - j, by omega⟩
        rw [hq9, show 9 - (j + 1) = q by omega]
        show (if m ≤ j then none else if tx_w T p (tx_ws.getD j []) = true then some j else tx_fw T p m q (j + 1)) = _
        rw [if_neg (by omega)]
      refine nd_iload_n hC dX8_atom_26 rfl ?_
      refine nd_aload_n hC dX8_atom_27 rfl rfl ?_
      refine nd_get (ci := nX8) hC in_X8 rfl hb 9 (by decide) q1633 (fun _ z => z) rfl dX8_atom_28 ?_
      first | with_reducible refine nd_icmp_geN hC (tgt := 62) (by omega) (by omega) dX8_atom_31 (by decide) (fun hq1 => ?_) (fun hq1 => ?_) | refine nd_icmp_ge hC (tgt := 62) dX8_atom_31 (by decide) (fun hq1 => ?_) (fun hq1 => ?_)
      · omega
      refine nd_aload_n hC dX8_atom_34 rfl rfl ?_
      refine nd_aload_n hC dX8_atom_35 rfl rfl ?_
      refine nd_get (ci := nX8) hC in_X8 rfl hb 0 (by decide) q1624 (fun _ z => z) rfl dX8_atom_36 ?_
      refine nd_iload_n hC dX8_atom_39 rfl ?_
      refine nd_aaloadN hC rfl rfl hwa (by omega) (by omega) dX8_atom_40 ?_
      refine nd_v_eq (y := nd_f j) ((hwb j (by omega))) ?_
      refine nd_callV (mm2 := mX8_eats) (As := [_]) (mc2 := 0) (ms2 := 0) (d2 := d - 1) hC rfl lkX8_91 ⟨rfl, lmX8_eats⟩ (hb) rfl (Nat.le_of_ble_eq_true rfl) (by omega) rfl (by exact Nat.le_of_ble_eq_true rfl) (by omega) (by omega) dX8_atom_41 rfl ((rd_eatsS hg (by omega) hT hr hp hR hrr (fun z h1 a1 f1 e1 => ?_) (fun z => ?_)))
      · rw [er] at z
        rw [if_pos z] at ew2
        have ef : tx_atom T m (tx_dn (tx_sum T m) k) p = .inl ([100 + j], tx_h T p) := by
          unfold tx_atom
          rw [ew2]
          rfl
        rw [ef] at hk he hmc hms
        have hmc : 2 * (tx_h T p - p) = mc := hmc
        have hms : 4 * (tx_h T p - p) = ms := hms
        have hh := tx_on_h (T := T) (p := p) (by rw [tx_w_k z]; decide) hp
        refine nd_if_eqB hC (tgt := 56) dX8_atom_44 (by decide) (fun hq => absurd hq (by decide)) (fun _ => ?_)
        refine nd_new (ci := nX11) hC [.int 0] in_X11 rfl tyX11 tyX11_ok q1799 q1800 q178 rfl rfl (by omega) (by omega) dX8_atom_47 ?_
        refine nd_dup hC (by rfl) dX8_atom_50 ?_
        refine nd_iload_n hC dX8_atom_51 rfl ?_
        refine nd_callI (mm2 := mX11_init) (As := [_]) (mc2 := 0) (ms2 := 0) (d2 := d - 1) hC rfl rfl q1803 q178 q1801 q1802 rfl lmX11_init (Nat.le_of_ble_eq_true rfl) (by omega) rfl (by exact Nat.le_of_ble_eq_true rfl) (by omega) (by omega) dX8_atom_52 rfl ((ni_X11 hg l_at_last ?_))
        rw [l_set_last, e1]
        have hrl1 : r < h1.length := by rw [e1]; exact hrl
        refine nd_areturn hC rfl (Or.inl ⟨_, rfl⟩) rfl (by omega) (by omega) dX8_atom_55 (hk _ rfl _ (oT o h.length) _ (a1.f (List.getElem?_append_left hrl1)) (f1.trans rd_f.app) ⟨fun x hx => ?_, fun x hx => ?_⟩ ?_)
        · unfold oT; rw [if_neg (by omega)]
        · rw [List.length_append, e1]
          unfold oT at hx
          by_cases q : x = h.length
          · rw [q]; show h.length < h.length + 1; omega
          · rw [if_neg q] at hx
            have := hol x hx
            show x < h.length + 1
            omega
        · refine su_at.mono (f := 1) (by show 1 ≤ tx_h T p - p; omega) ⟨by unfold oT; rw [if_pos rfl], Or.inr (Or.inl ⟨j, by omega, by rw [← e1]; exact l_at_last, rfl⟩)⟩
      · rw [er] at z
        rw [if_neg (by rw [z]; decide)] at ew2
        refine nd_if_eqB hC (tgt := 56) dX8_atom_44 (by decide) (fun _ => ?_) (fun hq => absurd hq (by decide))
        first | with_reducible refine nd_iincN hC dX8_atom_56 rfl (Nat.le_of_ble_eq_true rfl) ?_ | refine nd_iinc hC dX8_atom_56 rfl rfl (Nat.le_of_ble_eq_true rfl) ?_
        refine nd_goto hC (tgt := 26) dX8_atom_59 (by decide) ?_
        exact ih ew2
  exact LP 0 (Nat.zero_le _) rfl

theorem rd_term0 (hg : nd_OK g) (hd : 11 ≤ d) (hr : r ≠ 92) (hwr : wr ≠ r) {item : Nat → tx_R} (hGi : tx_G T item) (hA : rd_S g mX8_atom (d - 1) T r wr md dp m item) : rd_S g mX8_term d T r wr md dp m (tx_seq T item (tx_times T)) := by
  intro o h K p hp hT hw hR hro hol hk he
  have hrl := hR.lt
  obtain ⟨nu, hb, -⟩ := id hR
  have hGc := tx_G_chain (op := tx_times T) hGi tx_times_k (T.length + 1)
  have hc0 := rc_bind (p := p) (q := p) (R := item p) (Nat.le_refl _) hp (hGi p hp) hGc
  generalize hmc : rc T (tx_seq T item (tx_times T) p) p = mc
  generalize hms : rs T (tx_seq T item (tx_times T) p) p = ms
  have hmc0 : rc T (tx_bind (item p) (tx_chain T item (tx_times T) (T.length + 1))) p = mc := hmc
  have hms0 : rs T (tx_bind (item p) (tx_chain T item (tx_times T) (T.length + 1))) p = ms := hms
  rw [hmc0, hms0] at hc0
  refine nd_enter hg (by decide) rfl (Nat.le_of_ble_eq_true rfl) (fun X hC => ?_)
  refine nd_aload_n hC dX8_term_0 rfl rfl ?_
  refine nd_callV (mm2 := mX8_atom) (As := []) (mc2 := rc T (item p) p) (ms2 := rs T (item p) p) (d2 := d - 1) hC rfl lkX8_141 ⟨rfl, lmX8_atom⟩ (hb) rfl (Nat.le_of_ble_eq_true rfl) (by omega) rfl (by exact Nat.le_of_ble_eq_true rfl) (by omega) (by omega) dX8_term_1 rfl ((hA o h _ p hp hT hw hR hro hol (fun x ex h1 o1 a1 aR af ao asu => ?_) (fun e ee => ?_)))
  rotate_left
  · intro h2 k f2 b2
    exact nd_out hC rfl (by omega) (by omega) (he e (by unfold tx_seq; rw [ee]; rfl) h2 k f2 b2)
  have hgx : p + x.1.length ≤ x.2 ∧ x.2 ≤ T.length := by
    have := hGi p hp
    rw [ex] at this
    exact this
  have es0 : tx_seq T item (tx_times T) p = tx_bind (.inl x) (tx_chain T item (tx_times T) (T.length + 1)) := by unfold tx_seq; rw [ex]
  rw [es0] at hk he hmc hms
  have ec : rc T (item p) p = 2 * (x.2 - p) := by rw [ex]; rfl
  have es : rs T (item p) p = 4 * (x.2 - p) := by rw [ex]; rfl
  refine nd_astore_n hC dX8_term_4 (Nat.le_of_ble_eq_true rfl) rfl ?_
  have LP : ∀ (fu q : Nat) (s1 : List Nat) (a1 : Nat) (h1 : nd_H) (o1 : Nat → Nat), T.length + 1 - q ≤ fu → q ≤ T.length → p ≤ q → rd_R h1 r wr md T q dp m → rd_f r h h1 → rd_o o o1 h h1 → su_at o1 h1 (q - p) a1 s1 → tx_bind (.inl x) (tx_chain T item (tx_times T) (T.length + 1)) = tx_bind (.inl (s1, q)) (tx_chain T item (tx_times T) fu) → nd_W g mX8_term d mc ms K X 5 [some (.ref r), some (.ref a1)] [] h1 (2 * (q - p)) (4 * (q - p)) := by
    intro fu
    induction fu with
    | zero => intro q s1 a1 h1 o1 z1 z2; omega
    | succ fu ih =>
      intro q s1 a1 h1 o1 z1 z2 z3 aR af ao asu exx
      rw [exx] at hk he hmc hms
      have hge := rc_ge (s1 := s1) (f := tx_chain T item (tx_times T) (fu + 1)) z3 z2 (tx_G_chain hGi tx_times_k (fu + 1))
      rw [hmc, hms] at hge
      obtain ⟨nu1, hb1, -⟩ := id aR
      have hT1 := hT.f af hr
      have hw1 := hw.f af hwr
      have hro1 : o1 r ≠ 1 := by rw [ao.1 r hrl]; exact hro
      have hol1 := ao.2
      have hgrow := af.1
      refine nd_aload_n hC dX8_term_5 rfl rfl ?_
      refine nd_bipush hC (v := nI 42) (by rfl) dX8_term_6 ?_
      refine nd_callV (mm2 := mX8_eats_2) (As := [_]) (mc2 := 0) (ms2 := 0) (d2 := d - 1) hC rfl lkX8_98 ⟨rfl, lmX8_eats_2⟩ (hb1) rfl (Nat.le_of_ble_eq_true rfl) (by omega) rfl (by exact Nat.le_of_ble_eq_true rfl) (by omega) (by omega) dX8_term_8 rfl ((rd_eatsC hg (by omega) hT1 hr z2 aR (by omega) (by omega) (fun z h2 a2 f2 e2 => ?_) (fun z => ?_)))
      · have hop : (tx_times T) q = some 12 := by unfold tx_times; rw [if_pos z]
        have hk0 : tx_k T q ≠ 0 := tx_times_k q _ hop
        have hh := tx_on_h (T := T) (p := q) hk0 z2
        have hcC := chain_cost (fu := fu) (s1 := s1) (p := p) hop hGi tx_times_k z3 z2
        rw [hmc, hms] at hcC
        refine nd_if_eqB hC (tgt := 30) dX8_term_11 (by decide) (fun hq => absurd hq (by decide)) (fun _ => ?_)
        refine nd_new (ci := nX13) hC [.null, .null] in_X13 rfl tyX13 tyX13_ok q1813 q1814 q180 rfl rfl (by omega) (by omega) dX8_term_14 ?_
        have hR3 : rd_R (h2 ++ [(.inr (nX13, [.null, .null]) : nd_C)]) r wr md T (tx_h T q) dp m := a2.f (List.getElem?_append_left a2.lt)
        have fA : rd_f r h1 (h2 ++ [(.inr (nX13, [.null, .null]) : nd_C)]) := f2.trans rd_f.app
        have hT3 := hT1.f fA hr
        have hw3 := hw1.f fA hwr
        obtain ⟨nu3, hb3, -⟩ := id hR3
        have lA : (h2 ++ [(.inr (nX13, [.null, .null]) : nd_C)]).length = h1.length + 1 := by rw [List.length_append, e2]; rfl
        refine nd_dup hC (by rfl) dX8_term_17 ?_
        refine nd_aload_n hC dX8_term_18 rfl rfl ?_
        refine nd_aload_n hC dX8_term_19 rfl rfl ?_
        refine nd_callV (mm2 := mX8_atom) (As := []) (mc2 := rc T (item (tx_h T q)) (tx_h T q)) (ms2 := rs T (item (tx_h T q)) (tx_h T q)) (d2 := d - 1) hC rfl lkX8_141 ⟨rfl, lmX8_atom⟩ (hb3) rfl (Nat.le_of_ble_eq_true rfl) (by omega) rfl (by exact Nat.le_of_ble_eq_true rfl) (by omega) (by omega) dX8_term_20 rfl ((hA o1 _ _ (tx_h T q) hh.2 hT3 hw3 hR3 hro1 (fun a ha => by rw [lA]; have := hol1 a ha; omega) (fun y ey h3 o3 b3 bR bf bo bsu => ?_) (fun e ee => ?_)))
        rotate_left
        · intro h9 k f9 b9
          exact nd_out hC rfl (by omega) (by omega) (he e (by rw [chain_ok hop, ee]) h9 k (af.trans (fA.trans f9)) b9)
        have hgy : tx_h T q + y.1.length ≤ y.2 ∧ y.2 ≤ T.length := by
          have := hGi _ hh.2
          rw [ey] at this
          exact this
        have ecy : rc T (item (tx_h T q)) (tx_h T q) = 2 * (y.2 - tx_h T q) := by rw [ey]; rfl
        have esy : rs T (item (tx_h T q)) (tx_h T q) = 4 * (y.2 - tx_h T q) := by rw [ey]; rfl
        have hrl1 := aR.lt
        have cL : h3[h2.length]? = some (.inr (nX13, [.null, .null])) := (bf.2 h2.length (by rw [lA]; omega) (by omega)).trans l_at_last
        have hL3 : h2.length < h3.length := nd_get_lt cL
        have fB : rd_f r h1 h3 := fA.trans bf
        have hO : ∀ a, a ≤ h1.length → o3 a = o1 a := fun a ha => bo.1 a (by rw [lA]; omega)
        refine nd_callI (mm2 := mX13_init) (As := [_, _]) (mc2 := 0) (ms2 := 0) (d2 := d - 1) hC rfl rfl q1817 q180 q1815 q1816 rfl lmX13_init (Nat.le_of_ble_eq_true rfl) (by omega) rfl (by exact Nat.le_of_ble_eq_true rfl) (by omega) (by omega) dX8_term_23 rfl ((ni_X13 hg (by omega) cL ?_))
        have hsu : su_at (oT o3 h2.length) (h3.set h2.length (.inr (nX13, [.ref a1, .ref b3]))) (y.2 - p) h2.length (s1 ++ (y.1 ++ [12])) := su_node (by decide) e2 asu hol1 hro1 fB hO bsu hL3 (by have := asu.pos; have := bsu.pos; omega) (by have := asu.pos; have := bsu.pos; omega)
        have hoo := (bo.pre (h := h1) (by omega)).setL (c := .inr (nX13, [.ref a1, .ref b3])) (L := h2.length) (by omega) hL3
        have hff : rd_f r h1 (h3.set h2.length (.inr (nX13, [.ref a1, .ref b3]))) := fB.setL (by omega)
        have hRR : rd_R (h3.set h2.length (.inr (nX13, [.ref a1, .ref b3]))) r wr md T y.2 dp m := bR.f (List.getElem?_set_ne (by omega))
        refine nd_astore_n hC dX8_term_26 (Nat.le_of_ble_eq_true rfl) rfl ?_
        refine nd_goto hC (tgt := 5) dX8_term_27 (by decide) ?_
        refine nd_widen (cs2 := 2 * (y.2 - p)) (ss2 := 4 * (y.2 - p)) (by omega) (by omega) (ih y.2 (s1 ++ (y.1 ++ [12])) _ _ (oT o3 h2.length) (by omega) hgy.2 (by omega) hRR (af.trans hff) (ao.trans hoo hgrow) hsu (by rw [exx, chain_ok hop, ey]))
      · have hop : (tx_times T) q = none := by unfold tx_times; rw [if_neg z]
        refine nd_if_eqB hC (tgt := 30) dX8_term_11 (by decide) (fun _ => ?_) (fun hq => absurd hq (by decide))
        rw [chain_end hop] at hk hmc hms
        have hmc : 2 * (q - p) = mc := hmc
        have hms : 4 * (q - p) = ms := hms
        refine nd_aload_n hC dX8_term_30 rfl rfl ?_
        refine nd_areturn hC rfl (Or.inl ⟨_, rfl⟩) rfl (by omega) (by omega) dX8_term_31 (hk _ rfl h1 o1 a1 aR af ao asu)
  exact nd_widen (cs2 := 2 * (x.2 - p)) (ss2 := 4 * (x.2 - p)) (by omega) (by omega) (LP (T.length + 1) x.2 x.1 a1 h1 o1 (by omega) hgx.2 (by omega) aR af ao asu rfl)
theorem rd_both0 (hg : nd_OK g) (hd : 11 ≤ d) (hr : r ≠ 92) (hwr : wr ≠ r) {item : Nat → tx_R} (hGi : tx_G T item) (hA : rd_V g mX8_unit (d - 1) T r wr md dp m item) : rd_V g mX8_both d T r wr md dp m (tx_seq T item (tx_aw T tx_and 16)) := by
  intro o h K p hp hT hw hR hro hol hk he
  have hrl := hR.lt
  obtain ⟨nu, hb, -⟩ := id hR
  have hGc := tx_G_chain (op := tx_aw T tx_and 16) hGi tx_aw_k (T.length + 1)
  have hc0 := rc_bind (p := p) (q := p) (R := item p) (Nat.le_refl _) hp (hGi p hp) hGc
  generalize hmc : rc T (tx_seq T item (tx_aw T tx_and 16) p) p = mc
  generalize hms : rs T (tx_seq T item (tx_aw T tx_and 16) p) p = ms
  have hmc0 : rc T (tx_bind (item p) (tx_chain T item (tx_aw T tx_and 16) (T.length + 1))) p = mc := hmc
  have hms0 : rs T (tx_bind (item p) (tx_chain T item (tx_aw T tx_and 16) (T.length + 1))) p = ms := hms
  rw [hmc0, hms0] at hc0
  refine nd_enter hg (by decide) rfl (Nat.le_of_ble_eq_true rfl) (fun X hC => ?_)
  refine nd_aload_n hC dX8_both_0 rfl rfl ?_
  refine nd_callV (mm2 := mX8_unit) (As := []) (mc2 := rc T (item p) p) (ms2 := rs T (item p) p) (d2 := d - 1) hC rfl lkX8_166 ⟨rfl, lmX8_unit⟩ (hb) rfl (Nat.le_of_ble_eq_true rfl) (by omega) rfl (by exact Nat.le_of_ble_eq_true rfl) (by omega) (by omega) dX8_both_1 rfl ((hA o h _ p hp hT hw hR hro hol (fun x ex h1 o1 a1 aR af ao asu => ?_) (fun e ee => ?_)))
  rotate_left
  · intro h2 k f2 b2
    exact nd_out hC rfl (by omega) (by omega) (he e (by unfold tx_seq; rw [ee]; rfl) h2 k f2 b2)
  have hgx : p + x.1.length ≤ x.2 ∧ x.2 ≤ T.length := by
    have := hGi p hp
    rw [ex] at this
    exact this
  have es0 : tx_seq T item (tx_aw T tx_and 16) p = tx_bind (.inl x) (tx_chain T item (tx_aw T tx_and 16) (T.length + 1)) := by unfold tx_seq; rw [ex]
  rw [es0] at hk he hmc hms
  have ec : rc T (item p) p = 2 * (x.2 - p) := by rw [ex]; rfl
  have es : rs T (item p) p = 4 * (x.2 - p) := by rw [ex]; rfl
  refine nd_astore_n hC dX8_both_4 (Nat.le_of_ble_eq_true rfl) rfl ?_
  have LP : ∀ (fu q : Nat) (s1 : List Nat) (a1 : Nat) (h1 : nd_H) (o1 : Nat → Nat), T.length + 1 - q ≤ fu → q ≤ T.length → p ≤ q → rd_R h1 r wr md T q dp m → rd_f r h h1 → rd_o o o1 h h1 → (∃ F, tr_at o1 h1 F (q - p) a1 s1) → tx_bind (.inl x) (tx_chain T item (tx_aw T tx_and 16) (T.length + 1)) = tx_bind (.inl (s1, q)) (tx_chain T item (tx_aw T tx_and 16) fu) → nd_W g mX8_both d mc ms K X 5 [some (.ref r), some (.ref a1)] [] h1 (2 * (q - p)) (4 * (q - p)) := by
    intro fu
    induction fu with
    | zero => intro q s1 a1 h1 o1 z1 z2; omega
    | succ fu ih =>
      intro q s1 a1 h1 o1 z1 z2 z3 aR af ao asu exx
      rw [exx] at hk he hmc hms
      have hge := rc_ge (s1 := s1) (f := tx_chain T item (tx_aw T tx_and 16) (fu + 1)) z3 z2 (tx_G_chain hGi tx_aw_k (fu + 1))
      rw [hmc, hms] at hge
      obtain ⟨nu1, hb1, -⟩ := id aR
      have hT1 := hT.f af hr
      have hw1 := hw.f af hwr
      have hro1 : o1 r ≠ 1 := by rw [ao.1 r hrl]; exact hro
      have hol1 := ao.2
      have hgrow := af.1
      refine nd_aload_n hC dX8_both_5 rfl rfl ?_
      refine nd_ldcS hC (i := 14) (r := ("NapkinDeeds$Reader", 181, "and", [97, 110, 100])) rfl rfl dX8_both_6 ?_
      refine nd_callV (mm2 := mX8_eats) (As := [_]) (mc2 := 0) (ms2 := 0) (d2 := d - 1) hC rfl lkX8_91 ⟨rfl, lmX8_eats⟩ (hb1) rfl (Nat.le_of_ble_eq_true rfl) (by omega) rfl (by exact Nat.le_of_ble_eq_true rfl) (by omega) (by omega) dX8_both_8 rfl ((rd_eatsS (i := 14) hg (by omega) hT1 hr z2 aR rfl (fun z h2 a2 f2 e2 => ?_) (fun z => ?_)))
      · have hop : (tx_aw T tx_and 16) q = some 16 := by have z : tx_w T q tx_and = true := z; unfold tx_aw; rw [if_pos z]
        have hk0 : tx_k T q ≠ 0 := tx_aw_k q _ hop
        have hh := tx_on_h (T := T) (p := q) hk0 z2
        have hcC := chain_cost (fu := fu) (s1 := s1) (p := p) hop hGi tx_aw_k z3 z2
        rw [hmc, hms] at hcC
        refine nd_if_eqB hC (tgt := 30) dX8_both_11 (by decide) (fun hq => absurd hq (by decide)) (fun _ => ?_)
        refine nd_new (ci := nX18) hC [.null, .null] in_X18 rfl tyX18 tyX18_ok q1892 q1893 q185 rfl rfl (by omega) (by omega) dX8_both_14 ?_
        have hR3 : rd_R (h2 ++ [(.inr (nX18, [.null, .null]) : nd_C)]) r wr md T (tx_h T q) dp m := a2.f (List.getElem?_append_left a2.lt)
        have fA : rd_f r h1 (h2 ++ [(.inr (nX18, [.null, .null]) : nd_C)]) := f2.trans rd_f.app
        have hT3 := hT1.f fA hr
        have hw3 := hw1.f fA hwr
        obtain ⟨nu3, hb3, -⟩ := id hR3
        have lA : (h2 ++ [(.inr (nX18, [.null, .null]) : nd_C)]).length = h1.length + 1 := by rw [List.length_append, e2]; rfl
        refine nd_dup hC (by rfl) dX8_both_17 ?_
        refine nd_aload_n hC dX8_both_18 rfl rfl ?_
        refine nd_aload_n hC dX8_both_19 rfl rfl ?_
        refine nd_callV (mm2 := mX8_unit) (As := []) (mc2 := rc T (item (tx_h T q)) (tx_h T q)) (ms2 := rs T (item (tx_h T q)) (tx_h T q)) (d2 := d - 1) hC rfl lkX8_166 ⟨rfl, lmX8_unit⟩ (hb3) rfl (Nat.le_of_ble_eq_true rfl) (by omega) rfl (by exact Nat.le_of_ble_eq_true rfl) (by omega) (by omega) dX8_both_20 rfl ((hA o1 _ _ (tx_h T q) hh.2 hT3 hw3 hR3 hro1 (fun a ha => by rw [lA]; have := hol1 a ha; omega) (fun y ey h3 o3 b3 bR bf bo bsu => ?_) (fun e ee => ?_)))
        rotate_left
        · intro h9 k f9 b9
          exact nd_out hC rfl (by omega) (by omega) (he e (by rw [chain_ok hop, ee]) h9 k (af.trans (fA.trans f9)) b9)
        have hgy : tx_h T q + y.1.length ≤ y.2 ∧ y.2 ≤ T.length := by
          have := hGi _ hh.2
          rw [ey] at this
          exact this
        have ecy : rc T (item (tx_h T q)) (tx_h T q) = 2 * (y.2 - tx_h T q) := by rw [ey]; rfl
        have esy : rs T (item (tx_h T q)) (tx_h T q) = 4 * (y.2 - tx_h T q) := by rw [ey]; rfl
        have hrl1 := aR.lt
        have cL : h3[h2.length]? = some (.inr (nX18, [.null, .null])) := (bf.2 h2.length (by rw [lA]; omega) (by omega)).trans l_at_last
        have hL3 : h2.length < h3.length := nd_get_lt cL
        have fB : rd_f r h1 h3 := fA.trans bf
        have hO : ∀ a, a ≤ h1.length → o3 a = o1 a := fun a ha => bo.1 a (by rw [lA]; omega)
        refine nd_callI (mm2 := mX18_init) (As := [_, _]) (mc2 := 0) (ms2 := 0) (d2 := d - 1) hC rfl rfl q1896 q185 q1894 q1895 rfl lmX18_init (Nat.le_of_ble_eq_true rfl) (by omega) rfl (by exact Nat.le_of_ble_eq_true rfl) (by omega) (by omega) dX8_both_23 rfl ((ni_X18 hg cL ?_))
        have hsu : ∃ G, tr_at (oT o3 h2.length) (h3.set h2.length (.inr (nX18, [.ref a1, .ref b3]))) G (y.2 - p) h2.length (s1 ++ (y.1 ++ [16])) := by
          obtain ⟨FA, asu⟩ := asu
          obtain ⟨FB, bsu⟩ := bsu
          exact tr_both e2 asu hol1 hro1 fB hO bsu hL3 (by have := asu.pos; have := bsu.pos; omega) (by have := asu.pos; have := bsu.pos; omega)
        have hoo := (bo.pre (h := h1) (by omega)).setL (c := .inr (nX18, [.ref a1, .ref b3])) (L := h2.length) (by omega) hL3
        have hff : rd_f r h1 (h3.set h2.length (.inr (nX18, [.ref a1, .ref b3]))) := fB.setL (by omega)
        have hRR : rd_R (h3.set h2.length (.inr (nX18, [.ref a1, .ref b3]))) r wr md T y.2 dp m := bR.f (List.getElem?_set_ne (by omega))
        refine nd_astore_n hC dX8_both_26 (Nat.le_of_ble_eq_true rfl) rfl ?_
        refine nd_goto hC (tgt := 5) dX8_both_27 (by decide) ?_
        refine nd_widen (cs2 := 2 * (y.2 - p)) (ss2 := 4 * (y.2 - p)) (by omega) (by omega) (ih y.2 (s1 ++ (y.1 ++ [16])) _ _ (oT o3 h2.length) (by omega) hgy.2 (by omega) hRR (af.trans hff) (ao.trans hoo hgrow) hsu (by rw [exx, chain_ok hop, ey]))
      · have hop : (tx_aw T tx_and 16) q = none := by have z : tx_w T q tx_and = false := z; unfold tx_aw; rw [if_neg (by intro y; rw [y] at z; cases z)]
        refine nd_if_eqB hC (tgt := 30) dX8_both_11 (by decide) (fun _ => ?_) (fun hq => absurd hq (by decide))
        rw [chain_end hop] at hk hmc hms
        have hmc : 2 * (q - p) = mc := hmc
        have hms : 4 * (q - p) = ms := hms
        refine nd_aload_n hC dX8_both_30 rfl rfl ?_
        refine nd_areturn hC rfl (Or.inl ⟨_, rfl⟩) rfl (by omega) (by omega) dX8_both_31 (hk _ rfl h1 o1 a1 aR af ao asu)
  exact nd_widen (cs2 := 2 * (x.2 - p)) (ss2 := 4 * (x.2 - p)) (by omega) (by omega) (LP (T.length + 1) x.2 x.1 a1 h1 o1 (by omega) hgx.2 (by omega) aR af ao asu rfl)
theorem rd_truth0 (hg : nd_OK g) (hd : 11 ≤ d) (hr : r ≠ 92) (hwr : wr ≠ r) {item : Nat → tx_R} (hGi : tx_G T item) (hA : rd_V g mX8_both (d - 1) T r wr md dp m item) : rd_V g mX8_truth d T r wr md dp m (tx_seq T item (tx_aw T tx_or 17)) := by
  intro o h K p hp hT hw hR hro hol hk he
  have hrl := hR.lt
  obtain ⟨nu, hb, -⟩ := id hR
  have hGc := tx_G_chain (op := tx_aw T tx_or 17) hGi tx_aw_k (T.length + 1)
  have hc0 := rc_bind (p := p) (q := p) (R := item p) (Nat.le_refl _) hp (hGi p hp) hGc
  generalize hmc : rc T (tx_seq T item (tx_aw T tx_or 17) p) p = mc
  generalize hms : rs T (tx_seq T item (tx_aw T tx_or 17) p) p = ms
  have hmc0 : rc T (tx_bind (item p) (tx_chain T item (tx_aw T tx_or 17) (T.length + 1))) p = mc := hmc
  have hms0 : rs T (tx_bind (item p) (tx_chain T item (tx_aw T tx_or 17) (T.length + 1))) p = ms := hms
  rw [hmc0, hms0] at hc0
  refine nd_enter hg (by decide) rfl (Nat.le_of_ble_eq_true rfl) (fun X hC => ?_)
  refine nd_aload_n hC dX8_truth_0 rfl rfl ?_
  refine nd_callV (mm2 := mX8_both) (As := []) (mc2 := rc T (item p) p) (ms2 := rs T (item p) p) (d2 := d - 1) hC rfl lkX8_188 ⟨rfl, lmX8_both⟩ (hb) rfl (Nat.le_of_ble_eq_true rfl) (by omega) rfl (by exact Nat.le_of_ble_eq_true rfl) (by omega) (by omega) dX8_truth_1 rfl ((hA o h _ p hp hT hw hR hro hol (fun x ex h1 o1 a1 aR af ao asu => ?_) (fun e ee => ?_)))
  rotate_left
  · intro h2 k f2 b2
    exact nd_out hC rfl (by omega) (by omega) (he e (by unfold tx_seq; rw [ee]; rfl) h2 k f2 b2)
  have hgx : p + x.1.length ≤ x.2 ∧ x.2 ≤ T.length := by
    have := hGi p hp
    rw [ex] at this
    exact this
  have es0 : tx_seq T item (tx_aw T tx_or 17) p = tx_bind (.inl x) (tx_chain T item (tx_aw T tx_or 17) (T.length + 1)) := by unfold tx_seq; rw [ex]
  rw [es0] at hk he hmc hms
  have ec : rc T (item p) p = 2 * (x.2 - p) := by rw [ex]; rfl
  have es : rs T (item p) p = 4 * (x.2 - p) := by rw [ex]; rfl
  refine nd_astore_n hC dX8_truth_4 (Nat.le_of_ble_eq_true rfl) rfl ?_
  have LP : ∀ (fu q : Nat) (s1 : List Nat) (a1 : Nat) (h1 : nd_H) (o1 : Nat → Nat), T.length + 1 - q ≤ fu → q ≤ T.length → p ≤ q → rd_R h1 r wr md T q dp m → rd_f r h h1 → rd_o o o1 h h1 → (∃ F, tr_at o1 h1 F (q - p) a1 s1) → tx_bind (.inl x) (tx_chain T item (tx_aw T tx_or 17) (T.length + 1)) = tx_bind (.inl (s1, q)) (tx_chain T item (tx_aw T tx_or 17) fu) → nd_W g mX8_truth d mc ms K X 5 [some (.ref r), some (.ref a1)] [] h1 (2 * (q - p)) (4 * (q - p)) := by
    intro fu
    induction fu with
    | zero => intro q s1 a1 h1 o1 z1 z2; omega
    | succ fu ih =>
      intro q s1 a1 h1 o1 z1 z2 z3 aR af ao asu exx
      rw [exx] at hk he hmc hms
      have hge := rc_ge (s1 := s1) (f := tx_chain T item (tx_aw T tx_or 17) (fu + 1)) z3 z2 (tx_G_chain hGi tx_aw_k (fu + 1))
      rw [hmc, hms] at hge
      obtain ⟨nu1, hb1, -⟩ := id aR
      have hT1 := hT.f af hr
      have hw1 := hw.f af hwr
      have hro1 : o1 r ≠ 1 := by rw [ao.1 r hrl]; exact hro
      have hol1 := ao.2
      have hgrow := af.1
      refine nd_aload_n hC dX8_truth_5 rfl rfl ?_
      refine nd_ldcS hC (i := 15) (r := ("NapkinDeeds$Reader", 191, "or", [111, 114])) rfl rfl dX8_truth_6 ?_
      refine nd_callV (mm2 := mX8_eats) (As := [_]) (mc2 := 0) (ms2 := 0) (d2 := d - 1) hC rfl lkX8_91 ⟨rfl, lmX8_eats⟩ (hb1) rfl (Nat.le_of_ble_eq_true rfl) (by omega) rfl (by exact Nat.le_of_ble_eq_true rfl) (by omega) (by omega) dX8_truth_8 rfl ((rd_eatsS (i := 15) hg (by omega) hT1 hr z2 aR rfl (fun z h2 a2 f2 e2 => ?_) (fun z => ?_)))
      · have hop : (tx_aw T tx_or 17) q = some 17 := by have z : tx_w T q tx_or = true := z; unfold tx_aw; rw [if_pos z]
        have hk0 : tx_k T q ≠ 0 := tx_aw_k q _ hop
        have hh := tx_on_h (T := T) (p := q) hk0 z2
        have hor := tx_or_len z
        have hcC := chain_cost (fu := fu) (s1 := s1) (p := p) hop hGi tx_aw_k z3 z2
        rw [hmc, hms] at hcC
        refine nd_if_eqB hC (tgt := 30) dX8_truth_11 (by decide) (fun hq => absurd hq (by decide)) (fun _ => ?_)
        refine nd_new (ci := nX19) hC [.null, .null] in_X19 rfl tyX19 tyX19_ok q1906 q1907 q186 rfl rfl (by omega) (by omega) dX8_truth_14 ?_
        have hR3 : rd_R (h2 ++ [(.inr (nX19, [.null, .null]) : nd_C)]) r wr md T (tx_h T q) dp m := a2.f (List.getElem?_append_left a2.lt)
        have fA : rd_f r h1 (h2 ++ [(.inr (nX19, [.null, .null]) : nd_C)]) := f2.trans rd_f.app
        have hT3 := hT1.f fA hr
        have hw3 := hw1.f fA hwr
        obtain ⟨nu3, hb3, -⟩ := id hR3
        have lA : (h2 ++ [(.inr (nX19, [.null, .null]) : nd_C)]).length = h1.length + 1 := by rw [List.length_append, e2]; rfl
        refine nd_dup hC (by rfl) dX8_truth_17 ?_
        refine nd_aload_n hC dX8_truth_18 rfl rfl ?_
        refine nd_aload_n hC dX8_truth_19 rfl rfl ?_
        refine nd_callV (mm2 := mX8_both) (As := []) (mc2 := rc T (item (tx_h T q)) (tx_h T q)) (ms2 := rs T (item (tx_h T q)) (tx_h T q)) (d2 := d - 1) hC rfl lkX8_188 ⟨rfl, lmX8_both⟩ (hb3) rfl (Nat.le_of_ble_eq_true rfl) (by omega) rfl (by exact Nat.le_of_ble_eq_true rfl) (by omega) (by omega) dX8_truth_20 rfl ((hA o1 _ _ (tx_h T q) hh.2 hT3 hw3 hR3 hro1 (fun a ha => by rw [lA]; have := hol1 a ha; omega) (fun y ey h3 o3 b3 bR bf bo bsu => ?_) (fun e ee => ?_)))
        rotate_left
        · intro h9 k f9 b9
          exact nd_out hC rfl (by omega) (by omega) (he e (by rw [chain_ok hop, ee]) h9 k (af.trans (fA.trans f9)) b9)
        have hgy : tx_h T q + y.1.length ≤ y.2 ∧ y.2 ≤ T.length := by
          have := hGi _ hh.2
          rw [ey] at this
          exact this
        have ecy : rc T (item (tx_h T q)) (tx_h T q) = 2 * (y.2 - tx_h T q) := by rw [ey]; rfl
        have esy : rs T (item (tx_h T q)) (tx_h T q) = 4 * (y.2 - tx_h T q) := by rw [ey]; rfl
        have hrl1 := aR.lt
        have cL : h3[h2.length]? = some (.inr (nX19, [.null, .null])) := (bf.2 h2.length (by rw [lA]; omega) (by omega)).trans l_at_last
        have hL3 : h2.length < h3.length := nd_get_lt cL
        have fB : rd_f r h1 h3 := fA.trans bf
        have hO : ∀ a, a ≤ h1.length → o3 a = o1 a := fun a ha => bo.1 a (by rw [lA]; omega)
        refine nd_callI (mm2 := mX19_init) (As := [_, _]) (mc2 := 2) (ms2 := 2) (d2 := d - 1) hC rfl rfl q1910 q186 q1908 q1909 rfl lmX19_init (Nat.le_of_ble_eq_true rfl) (by omega) rfl (by exact Nat.le_of_ble_eq_true rfl) (by omega) (by omega) dX8_truth_23 rfl ((ni_X19 hg (by omega) cL ?_))
        have hsu : ∃ G, tr_at (oE o3 h2.length h3.length) (((h3 ++ [(.inr (nX16, [.ref a1]) : nd_C)]) ++ [(.inr (nX16, [.ref b3]) : nd_C)]).set h2.length (.inr (nX19, [.ref h3.length, .ref (h3.length + 1)]))) G (y.2 - p) h2.length (s1 ++ (y.1 ++ [17])) := by
          obtain ⟨FA, asu⟩ := asu
          obtain ⟨FB, bsu⟩ := bsu
          exact tr_either e2 asu hol1 hro1 fB hO bo.2 bsu hL3 (by have := asu.pos; have := bsu.pos; omega) (by have := asu.pos; have := bsu.pos; omega)
        have hoo := (bo.pre (h := h1) (by omega)).setE (c1 := (.inr (nX16, [.ref a1]) : nd_C)) (c2 := (.inr (nX16, [.ref b3]) : nd_C)) (c := .inr (nX19, [.ref h3.length, .ref (h3.length + 1)])) (L := h2.length) (by omega) hL3
        have hff : rd_f r h1 (((h3 ++ [(.inr (nX16, [.ref a1]) : nd_C)]) ++ [(.inr (nX16, [.ref b3]) : nd_C)]).set h2.length (.inr (nX19, [.ref h3.length, .ref (h3.length + 1)]))) := (fB.trans (rd_f.app.trans rd_f.app)).setL (by omega)
        have hRR : rd_R (((h3 ++ [(.inr (nX16, [.ref a1]) : nd_C)]) ++ [(.inr (nX16, [.ref b3]) : nd_C)]).set h2.length (.inr (nX19, [.ref h3.length, .ref (h3.length + 1)]))) r wr md T y.2 dp m := bR.f (by have := bR.lt; rw [List.getElem?_set_ne (by omega), List.append_assoc]; exact List.getElem?_append_left this)
        refine nd_astore_n hC dX8_truth_26 (Nat.le_of_ble_eq_true rfl) rfl ?_
        refine nd_goto hC (tgt := 5) dX8_truth_27 (by decide) ?_
        refine nd_widen (cs2 := 2 * (y.2 - p)) (ss2 := 4 * (y.2 - p)) (by omega) (by omega) (ih y.2 (s1 ++ (y.1 ++ [17])) _ _ (oE o3 h2.length h3.length) (by omega) hgy.2 (by omega) hRR (af.trans hff) (ao.trans hoo hgrow) hsu (by rw [exx, chain_ok hop, ey]))
      · have hop : (tx_aw T tx_or 17) q = none := by have z : tx_w T q tx_or = false := z; unfold tx_aw; rw [if_neg (by intro y; rw [y] at z; cases z)]
        refine nd_if_eqB hC (tgt := 30) dX8_truth_11 (by decide) (fun _ => ?_) (fun hq => absurd hq (by decide))
        rw [chain_end hop] at hk hmc hms
        have hmc : 2 * (q - p) = mc := hmc
        have hms : 4 * (q - p) = ms := hms
        refine nd_aload_n hC dX8_truth_30 rfl rfl ?_
        refine nd_areturn hC rfl (Or.inl ⟨_, rfl⟩) rfl (by omega) (by omega) dX8_truth_31 (hk _ rfl h1 o1 a1 aR af ao asu)
  exact nd_widen (cs2 := 2 * (x.2 - p)) (ss2 := 4 * (x.2 - p)) (by omega) (by omega) (LP (T.length + 1) x.2 x.1 a1 h1 o1 (by omega) hgx.2 (by omega) aR af ao asu rfl)
theorem rd_minus (hg : nd_OK g) (hd : 7 ≤ d) (hr : r ≠ 92) (hwr : wr ≠ r) {item : Nat → tx_R} (hGi : tx_G T item) (hA : rd_S g mX8_term (d - 1) T r wr md dp m item) {o1 : Nat → Nat} {h1 : nd_H} {K : nd_K} {p q a1 : Nat} {s1 : List Nat} (z2 : q ≤ T.length) (z3 : p ≤ q) (hk0 : tx_k T q ≠ 0) (hT1 : rd_T h1 T) (hw1 : rd_w h1 wr) (aR : rd_R h1 r wr md T q dp m) (hro1 : o1 r ≠ 1) (hol1 : ∀ a, o1 a ≠ 0 → a < h1.length) (asu : su_at o1 h1 (q - p) a1 s1)
    (hk : ∀ y, item (tx_h T q) = .inl y → ∀ h4 o4 a4, rd_R h4 r wr md T y.2 dp m → rd_f r h1 h4 → rd_o o1 o4 h1 h4 → su_at o4 h4 (y.2 - p) a4 (s1 ++ (y.1 ++ [11])) → K (.inl (some (.ref a4))) h4) (he : ∀ e, item (tx_h T q) = .inr e → rd_E r h1 K e) : nd_M g mX8_minus d (1 + rc T (item (tx_h T q)) (tx_h T q)) (2 + rs T (item (tx_h T q)) (tx_h T q)) [.ref r, .ref a1] h1 K := by
  obtain ⟨nu1, hb1, -⟩ := id aR
  have hh := tx_on_h (T := T) (p := q) hk0 z2
  have af : rd_f r h1 h1 := rd_f.rfl
  refine nd_enter hg (by decide) rfl (Nat.le_of_ble_eq_true rfl) (fun X hC => ?_)
  refine nd_aload_n hC dX8_minus_0 rfl rfl ?_
  refine nd_callV (mm2 := mX8_next) (As := []) (mc2 := 0) (ms2 := 0) (d2 := d - 1) hC rfl lkX8_48 ⟨rfl, lmX8_next⟩ (hb1) rfl (Nat.le_of_ble_eq_true rfl) (by omega) rfl (by exact Nat.le_of_ble_eq_true rfl) (by omega) (by omega) dX8_minus_1 rfl ((rd_on hg (by omega) hT1 hr z2 aR (fun h2 a2 f2 e2 => ?_)))
  refine nd_new (ci := nX15) hC [.null, .null] in_X15 rfl tyX15 tyX15_ok q1842 q1843 q182 rfl rfl (by omega) (by omega) dX8_minus_4 ?_
  have hR3 : rd_R (h2 ++ [(.inr (nX15, [.null, .null]) : nd_C)]) r wr md T (tx_h T q) dp m := a2.f (List.getElem?_append_left a2.lt)
  have fA : rd_f r h1 (h2 ++ [(.inr (nX15, [.null, .null]) : nd_C)]) := f2.trans rd_f.app
  have hT3 := hT1.f fA hr
  have hw3 := hw1.f fA hwr
  obtain ⟨nu3, hb3, -⟩ := id hR3
  have lA : (h2 ++ [(.inr (nX15, [.null, .null]) : nd_C)]).length = h1.length + 1 := by rw [List.length_append, e2]; rfl
  refine nd_dup hC (by rfl) dX8_minus_7 ?_
  refine nd_aload_n hC dX8_minus_8 rfl rfl ?_
  refine nd_aload_n hC dX8_minus_9 rfl rfl ?_
  refine nd_callV (mm2 := mX8_term) (As := []) (mc2 := rc T (item (tx_h T q)) (tx_h T q)) (ms2 := rs T (item (tx_h T q)) (tx_h T q)) (d2 := d - 1) hC rfl lkX8_149 ⟨rfl, lmX8_term⟩ (hb3) rfl (Nat.le_of_ble_eq_true rfl) (by omega) rfl (by exact Nat.le_of_ble_eq_true rfl) (by omega) (by omega) dX8_minus_10 rfl ((hA o1 _ _ (tx_h T q) hh.2 hT3 hw3 hR3 hro1 (fun a ha => by rw [lA]; have := hol1 a ha; omega) (fun y ey h3 o3 b3 bR bf bo bsu => ?_) (fun e ee => ?_)))
  rotate_left
  · intro h9 k f9 b9
    exact nd_out hC rfl (by omega) (by omega) (he e ee h9 k (af.trans (fA.trans f9)) b9)
  have hgy : tx_h T q + y.1.length ≤ y.2 ∧ y.2 ≤ T.length := by
    have := hGi _ hh.2
    rw [ey] at this
    exact this
  have ecy : rc T (item (tx_h T q)) (tx_h T q) = 2 * (y.2 - tx_h T q) := by rw [ey]; rfl
  have esy : rs T (item (tx_h T q)) (tx_h T q) = 4 * (y.2 - tx_h T q) := by rw [ey]; rfl
  have hrl1 := aR.lt
  have cL : h3[h2.length]? = some (.inr (nX15, [.null, .null])) := (bf.2 h2.length (by rw [lA]; omega) (by omega)).trans l_at_last
  have hL3 : h2.length < h3.length := nd_get_lt cL
  have fB : rd_f r h1 h3 := fA.trans bf
  have hO : ∀ a, a ≤ h1.length → o3 a = o1 a := fun a ha => bo.1 a (by rw [lA]; omega)
  refine nd_callI (mm2 := mX15_init) (As := [_, _]) (mc2 := 0) (ms2 := 0) (d2 := d - 1) hC rfl rfl q1846 q182 q1844 q1845 rfl lmX15_init (Nat.le_of_ble_eq_true rfl) (by omega) rfl (by exact Nat.le_of_ble_eq_true rfl) (by omega) (by omega) dX8_minus_13 rfl ((ni_X15 hg (by omega) cL ?_))
  have hsu : su_at (oT o3 h2.length) (h3.set h2.length (.inr (nX15, [.ref a1, .ref b3]))) (y.2 - p) h2.length (s1 ++ (y.1 ++ [11])) := su_node (by decide) e2 asu hol1 hro1 fB hO bsu hL3 (by have := asu.pos; have := bsu.pos; omega) (by have := asu.pos; have := bsu.pos; omega)
  have hoo := (bo.pre (h := h1) (by omega)).setL (c := .inr (nX15, [.ref a1, .ref b3])) (L := h2.length) (by omega) hL3
  have hff : rd_f r h1 (h3.set h2.length (.inr (nX15, [.ref a1, .ref b3]))) := fB.setL (by omega)
  have hRR : rd_R (h3.set h2.length (.inr (nX15, [.ref a1, .ref b3]))) r wr md T y.2 dp m := bR.f (List.getElem?_set_ne (by omega))
  refine nd_areturn hC rfl (Or.inl ⟨_, rfl⟩) rfl (by omega) (by omega) dX8_minus_16 (hk y ey _ _ _ hRR hff hoo hsu)
theorem rd_sum0 (hg : nd_OK g) (hd : 12 ≤ d) (hr : r ≠ 92) (hwr : wr ≠ r) {item : Nat → tx_R} (hGi : tx_G T item) (hA : rd_S g mX8_term (d - 1) T r wr md dp m item) (hA2 : rd_S g mX8_term (d - 1 - 1) T r wr md dp m item) : rd_S g mX8_sum d T r wr md dp m (tx_seq T item (tx_pm T)) := by
  intro o h K p hp hT hw hR hro hol hk he
  have hrl := hR.lt
  obtain ⟨nu, hb, -⟩ := id hR
  have hGc := tx_G_chain (op := tx_pm T) hGi tx_pm_k (T.length + 1)
  have hc0 := rc_bind (p := p) (q := p) (R := item p) (Nat.le_refl _) hp (hGi p hp) hGc
  generalize hmc : rc T (tx_seq T item (tx_pm T) p) p = mc
  generalize hms : rs T (tx_seq T item (tx_pm T) p) p = ms
  have hmc0 : rc T (tx_bind (item p) (tx_chain T item (tx_pm T) (T.length + 1))) p = mc := hmc
  have hms0 : rs T (tx_bind (item p) (tx_chain T item (tx_pm T) (T.length + 1))) p = ms := hms
  rw [hmc0, hms0] at hc0
  refine nd_enter hg (by decide) rfl (Nat.le_of_ble_eq_true rfl) (fun X hC => ?_)
  refine nd_aload_n hC dX8_sum_0 rfl rfl ?_
  refine nd_callV (mm2 := mX8_term) (As := []) (mc2 := rc T (item p) p) (ms2 := rs T (item p) p) (d2 := d - 1) hC rfl lkX8_149 ⟨rfl, lmX8_term⟩ (hb) rfl (Nat.le_of_ble_eq_true rfl) (by omega) rfl (by exact Nat.le_of_ble_eq_true rfl) (by omega) (by omega) dX8_sum_1 rfl ((hA o h _ p hp hT hw hR hro hol (fun x ex h1 o1 a1 aR af ao asu => ?_) (fun e ee => ?_)))
  rotate_left
  · intro h2 k f2 b2
    exact nd_out hC rfl (by omega) (by omega) (he e (by unfold tx_seq; rw [ee]; rfl) h2 k f2 b2)
  have hgx : p + x.1.length ≤ x.2 ∧ x.2 ≤ T.length := by
    have := hGi p hp
    rw [ex] at this
    exact this
  have es0 : tx_seq T item (tx_pm T) p = tx_bind (.inl x) (tx_chain T item (tx_pm T) (T.length + 1)) := by unfold tx_seq; rw [ex]
  rw [es0] at hk he hmc hms
  have ec : rc T (item p) p = 2 * (x.2 - p) := by rw [ex]; rfl
  have es : rs T (item p) p = 4 * (x.2 - p) := by rw [ex]; rfl
  refine nd_astore_n hC dX8_sum_4 (Nat.le_of_ble_eq_true rfl) rfl ?_
  have LP : ∀ (fu q : Nat) (s1 : List Nat) (a1 : Nat) (h1 : nd_H) (o1 : Nat → Nat), T.length + 1 - q ≤ fu → q ≤ T.length → p ≤ q → rd_R h1 r wr md T q dp m → rd_f r h h1 → rd_o o o1 h h1 → su_at o1 h1 (q - p) a1 s1 → tx_bind (.inl x) (tx_chain T item (tx_pm T) (T.length + 1)) = tx_bind (.inl (s1, q)) (tx_chain T item (tx_pm T) fu) → nd_W g mX8_sum d mc ms K X 5 [some (.ref r), some (.ref a1)] [] h1 (2 * (q - p)) (4 * (q - p)) := by
    intro fu
    induction fu with
    | zero => intro q s1 a1 h1 o1 z1 z2; omega
    | succ fu ih =>
      intro q s1 a1 h1 o1 z1 z2 z3 aR af ao asu exx
      rw [exx] at hk he hmc hms
      have hge := rc_ge (s1 := s1) (f := tx_chain T item (tx_pm T) (fu + 1)) z3 z2 (tx_G_chain hGi tx_pm_k (fu + 1))
      rw [hmc, hms] at hge
      obtain ⟨nu1, hb1, -⟩ := id aR
      have hT1 := hT.f af hr
      have hw1 := hw.f af hwr
      have hro1 : o1 r ≠ 1 := by rw [ao.1 r hrl]; exact hro
      have hol1 := ao.2
      have hgrow := af.1
      refine nd_aload_n hC dX8_sum_5 rfl rfl ?_
      refine nd_bipush hC (v := nI 43) (by rfl) dX8_sum_6 ?_
      refine nd_callV (mm2 := mX8_is_2) (As := [_]) (mc2 := 0) (ms2 := 0) (d2 := d - 1) hC rfl lkX8_88 ⟨rfl, lmX8_is_2⟩ (hb1) rfl (Nat.le_of_ble_eq_true rfl) (by omega) rfl (by exact Nat.le_of_ble_eq_true rfl) (by omega) (by omega) dX8_sum_8 rfl ((rd_isC hg hT1 aR (by omega) (by omega) ?_))
      by_cases z : tx_k T q = 43
      · rw [decide_eq_true z]
        have hop : (tx_pm T) q = some 10 := by unfold tx_pm; rw [if_pos z]
        have hk0 : tx_k T q ≠ 0 := tx_pm_k q _ hop
        have hh := tx_on_h (T := T) (p := q) hk0 z2
        have hcC := chain_cost (fu := fu) (s1 := s1) (p := p) hop hGi tx_pm_k z3 z2
        rw [hmc, hms] at hcC
        refine nd_if_neB hC (tgt := 23) dX8_sum_11 (by decide) (fun _ => ?_) (fun hq => absurd hq (by decide))
        refine nd_aload_n hC dX8_sum_23 rfl rfl ?_
        refine nd_bipush hC (v := nI 43) (by rfl) dX8_sum_24 ?_
        refine nd_callV (mm2 := mX8_eats_2) (As := [_]) (mc2 := 0) (ms2 := 0) (d2 := d - 1) hC rfl lkX8_98 ⟨rfl, lmX8_eats_2⟩ (hb1) rfl (Nat.le_of_ble_eq_true rfl) (by omega) rfl (by exact Nat.le_of_ble_eq_true rfl) (by omega) (by omega) dX8_sum_26 rfl ((rd_eatsC hg (by omega) hT1 hr z2 aR (by omega) (by omega) (fun _ h2 a2 f2 e2 => ?_) (fun zz => absurd z zz)))
        refine nd_if_eqB hC (tgt := 47) dX8_sum_29 (by decide) (fun hq => absurd hq (by decide)) (fun _ => ?_)
        refine nd_new (ci := nX14) hC [.null, .null] in_X14 rfl tyX14 tyX14_ok q1829 q1830 q181 rfl rfl (by omega) (by omega) dX8_sum_32 ?_
        have hR3 : rd_R (h2 ++ [(.inr (nX14, [.null, .null]) : nd_C)]) r wr md T (tx_h T q) dp m := a2.f (List.getElem?_append_left a2.lt)
        have fA : rd_f r h1 (h2 ++ [(.inr (nX14, [.null, .null]) : nd_C)]) := f2.trans rd_f.app
        have hT3 := hT1.f fA hr
        have hw3 := hw1.f fA hwr
        obtain ⟨nu3, hb3, -⟩ := id hR3
        have lA : (h2 ++ [(.inr (nX14, [.null, .null]) : nd_C)]).length = h1.length + 1 := by rw [List.length_append, e2]; rfl
        refine nd_dup hC (by rfl) dX8_sum_35 ?_
        refine nd_aload_n hC dX8_sum_36 rfl rfl ?_
        refine nd_aload_n hC dX8_sum_37 rfl rfl ?_
        refine nd_callV (mm2 := mX8_term) (As := []) (mc2 := rc T (item (tx_h T q)) (tx_h T q)) (ms2 := rs T (item (tx_h T q)) (tx_h T q)) (d2 := d - 1) hC rfl lkX8_149 ⟨rfl, lmX8_term⟩ (hb3) rfl (Nat.le_of_ble_eq_true rfl) (by omega) rfl (by exact Nat.le_of_ble_eq_true rfl) (by omega) (by omega) dX8_sum_38 rfl ((hA o1 _ _ (tx_h T q) hh.2 hT3 hw3 hR3 hro1 (fun a ha => by rw [lA]; have := hol1 a ha; omega) (fun y ey h3 o3 b3 bR bf bo bsu => ?_) (fun e ee => ?_)))
        rotate_left
        · intro h9 k f9 b9
          exact nd_out hC rfl (by omega) (by omega) (he e (by rw [chain_ok hop, ee]) h9 k (af.trans (fA.trans f9)) b9)
        have hgy : tx_h T q + y.1.length ≤ y.2 ∧ y.2 ≤ T.length := by
          have := hGi _ hh.2
          rw [ey] at this
          exact this
        have ecy : rc T (item (tx_h T q)) (tx_h T q) = 2 * (y.2 - tx_h T q) := by rw [ey]; rfl
        have esy : rs T (item (tx_h T q)) (tx_h T q) = 4 * (y.2 - tx_h T q) := by rw [ey]; rfl
        have hrl1 := aR.lt
        have cL : h3[h2.length]? = some (.inr (nX14, [.null, .null])) := (bf.2 h2.length (by rw [lA]; omega) (by omega)).trans l_at_last
        have hL3 : h2.length < h3.length := nd_get_lt cL
        have fB : rd_f r h1 h3 := fA.trans bf
        have hO : ∀ a, a ≤ h1.length → o3 a = o1 a := fun a ha => bo.1 a (by rw [lA]; omega)
        refine nd_callI (mm2 := mX14_init) (As := [_, _]) (mc2 := 0) (ms2 := 0) (d2 := d - 1) hC rfl rfl q1833 q181 q1831 q1832 rfl lmX14_init (Nat.le_of_ble_eq_true rfl) (by omega) rfl (by exact Nat.le_of_ble_eq_true rfl) (by omega) (by omega) dX8_sum_41 rfl ((ni_X14 hg (by omega) cL ?_))
        have hsu : su_at (oT o3 h2.length) (h3.set h2.length (.inr (nX14, [.ref a1, .ref b3]))) (y.2 - p) h2.length (s1 ++ (y.1 ++ [10])) := su_node (by decide) e2 asu hol1 hro1 fB hO bsu hL3 (by have := asu.pos; have := bsu.pos; omega) (by have := asu.pos; have := bsu.pos; omega)
        have hoo := (bo.pre (h := h1) (by omega)).setL (c := .inr (nX14, [.ref a1, .ref b3])) (L := h2.length) (by omega) hL3
        have hff : rd_f r h1 (h3.set h2.length (.inr (nX14, [.ref a1, .ref b3]))) := fB.setL (by omega)
        have hRR : rd_R (h3.set h2.length (.inr (nX14, [.ref a1, .ref b3]))) r wr md T y.2 dp m := bR.f (List.getElem?_set_ne (by omega))
        refine nd_goto hC (tgt := 52) dX8_sum_44 (by decide) ?_
        refine nd_astore_n hC dX8_sum_52 (Nat.le_of_ble_eq_true rfl) rfl ?_
        refine nd_goto hC (tgt := 5) dX8_sum_53 (by decide) ?_
        refine nd_widen (cs2 := 2 * (y.2 - p)) (ss2 := 4 * (y.2 - p)) (by omega) (by omega) (ih y.2 (s1 ++ (y.1 ++ [10])) _ _ (oT o3 h2.length) (by omega) hgy.2 (by omega) hRR (af.trans hff) (ao.trans hoo hgrow) hsu (by rw [exx, chain_ok hop, ey]))
      rw [decide_eq_false z]
      refine nd_if_neB hC (tgt := 23) dX8_sum_11 (by decide) (fun hq => absurd hq (by decide)) (fun _ => ?_)
      refine nd_aload_n hC dX8_sum_14 rfl rfl ?_
      refine nd_bipush hC (v := nI 45) (by rfl) dX8_sum_15 ?_
      refine nd_callV (mm2 := mX8_is_2) (As := [_]) (mc2 := 0) (ms2 := 0) (d2 := d - 1) hC rfl lkX8_88 ⟨rfl, lmX8_is_2⟩ (hb1) rfl (Nat.le_of_ble_eq_true rfl) (by omega) rfl (by exact Nat.le_of_ble_eq_true rfl) (by omega) (by omega) dX8_sum_17 rfl ((rd_isC hg hT1 aR (by omega) (by omega) ?_))
      by_cases zz : tx_k T q = 45
      · rw [decide_eq_true zz]
        have hop : (tx_pm T) q = some 11 := by unfold tx_pm; rw [if_neg z, if_pos zz]
        have hk0 : tx_k T q ≠ 0 := tx_pm_k q _ hop
        have hh := tx_on_h (T := T) (p := q) hk0 z2
        have hcC := chain_cost (fu := fu) (s1 := s1) (p := p) hop hGi tx_pm_k z3 z2
        rw [hmc, hms] at hcC
        refine nd_if_eqB hC (tgt := 56) dX8_sum_20 (by decide) (fun hq => absurd hq (by decide)) (fun _ => ?_)
        refine nd_aload_n hC dX8_sum_23 rfl rfl ?_
        refine nd_bipush hC (v := nI 43) (by rfl) dX8_sum_24 ?_
        refine nd_callV (mm2 := mX8_eats_2) (As := [_]) (mc2 := 0) (ms2 := 0) (d2 := d - 1) hC rfl lkX8_98 ⟨rfl, lmX8_eats_2⟩ (hb1) rfl (Nat.le_of_ble_eq_true rfl) (by omega) rfl (by exact Nat.le_of_ble_eq_true rfl) (by omega) (by omega) dX8_sum_26 rfl ((rd_eatsC hg (by omega) hT1 hr z2 aR (by omega) (by omega) (fun y _ _ _ _ => absurd y z) (fun _ => ?_)))
        refine nd_if_eqB hC (tgt := 47) dX8_sum_29 (by decide) (fun _ => ?_) (fun hq => absurd hq (by decide))
        refine nd_aload_n hC dX8_sum_47 rfl rfl ?_
        refine nd_aload_n hC dX8_sum_48 rfl rfl ?_
        refine nd_callV (mm2 := mX8_minus) (As := [_]) (mc2 := 1 + rc T (item (tx_h T q)) (tx_h T q)) (ms2 := 2 + rs T (item (tx_h T q)) (tx_h T q)) (d2 := d - 1) hC rfl lkX8_155 ⟨rfl, lmX8_minus⟩ (hb1) rfl (Nat.le_of_ble_eq_true rfl) (by omega) rfl (by exact Nat.le_of_ble_eq_true rfl) (by omega) (by omega) dX8_sum_49 rfl ((rd_minus (p := p) (s1 := s1) hg (by omega) hr hwr hGi hA2 z2 z3 hk0 hT1 hw1 aR hro1 hol1 asu (fun y ey h4 o4 a4 hRR hff hoo hsu => ?_) (fun e ee => ?_)))
        rotate_left
        · intro h9 k f9 b9
          exact nd_out hC rfl (by omega) (by omega) (he e (by rw [chain_ok hop, ee]) h9 k (af.trans f9) b9)
        have hgy : tx_h T q + y.1.length ≤ y.2 ∧ y.2 ≤ T.length := by
          have := hGi _ hh.2
          rw [ey] at this
          exact this
        have ecy : rc T (item (tx_h T q)) (tx_h T q) = 2 * (y.2 - tx_h T q) := by rw [ey]; rfl
        have esy : rs T (item (tx_h T q)) (tx_h T q) = 4 * (y.2 - tx_h T q) := by rw [ey]; rfl
        refine nd_astore_n hC dX8_sum_52 (Nat.le_of_ble_eq_true rfl) rfl ?_
        refine nd_goto hC (tgt := 5) dX8_sum_53 (by decide) ?_
        refine nd_widen (cs2 := 2 * (y.2 - p)) (ss2 := 4 * (y.2 - p)) (by omega) (by omega) (ih y.2 (s1 ++ (y.1 ++ [11])) _ _ o4 (by omega) hgy.2 (by omega) hRR (af.trans hff) (ao.trans hoo hgrow) hsu (by rw [exx, chain_ok hop, ey]))
      · rw [decide_eq_false zz]
        have hop : (tx_pm T) q = none := by unfold tx_pm; rw [if_neg z, if_neg zz]
        refine nd_if_eqB hC (tgt := 56) dX8_sum_20 (by decide) (fun _ => ?_) (fun hq => absurd hq (by decide))
        rw [chain_end hop] at hk hmc hms
        have hmc : 2 * (q - p) = mc := hmc
        have hms : 4 * (q - p) = ms := hms
        refine nd_aload_n hC dX8_sum_56 rfl rfl ?_
        refine nd_areturn hC rfl (Or.inl ⟨_, rfl⟩) rfl (by omega) (by omega) dX8_sum_57 (hk _ rfl h1 o1 a1 aR af ao asu)
  exact nd_widen (cs2 := 2 * (x.2 - p)) (ss2 := 4 * (x.2 - p)) (by omega) (by omega) (LP (T.length + 1) x.2 x.1 a1 h1 o1 (by omega) hgx.2 (by omega) aR af ao asu rfl)
/-- SUMS: the class reads them as plain text says -/
theorem rd_sum (hg : nd_OK g) (hr : r ≠ 92) (hwr : wr ≠ r) (hm : m ≤ 8) : ∀ (k d dp : Nat), 4 * k + 14 ≤ d → dp + k = 6 → rd_S g mX8_sum d T r wr md dp m (tx_sum T m k) := by
  intro k
  induction k with
  | zero =>
    intro d dp hd hdp
    have hGa : tx_G T (tx_atom T m (tx_dn (tx_sum T m) 0)) := tx_G_atom True.intro
    have hGt : tx_G T (tx_term T m (tx_dn (tx_sum T m) 0)) := tx_G_seq hGa tx_times_k
    have A : ∀ d, 11 ≤ d → rd_S g mX8_term d T r wr md dp m (tx_term T m (tx_dn (tx_sum T m) 0)) := fun d hd => rd_term0 hg hd hr hwr hGa (rd_atom hg (by omega) hr hwr hm hdp (fun k2 e => by omega))
    rw [tx_sum_eq]
    exact rd_sum0 hg (by omega) hr hwr hGt (A _ (by omega)) (A _ (by omega))
  | succ k ih =>
    intro d dp hd hdp
    have hGa : tx_G T (tx_atom T m (tx_dn (tx_sum T m) (k + 1))) := tx_G_atom (tx_G_sum T m k)
    have hGt : tx_G T (tx_term T m (tx_dn (tx_sum T m) (k + 1))) := tx_G_seq hGa tx_times_k
    have A : ∀ d, 4 * k + 16 ≤ d → rd_S g mX8_term d T r wr md dp m (tx_term T m (tx_dn (tx_sum T m) (k + 1))) := fun d hd => rd_term0 hg (by omega) hr hwr hGa (rd_atom hg (by omega) hr hwr hm hdp (fun k2 e => by
      have e : k2 = k := by omega
      subst e
      exact ih _ _ (by omega) (by omega)))
    rw [tx_sum_eq]
    exact rd_sum0 hg (by omega) hr hwr hGt (A _ (by omega)) (A _ (by omega))
end RD97

