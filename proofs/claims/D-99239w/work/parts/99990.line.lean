set_option maxRecDepth 100000
/-! ===== the class's reader: lines ===== -/
theorem su_at.ne {o : Nat → Nat} {h : nd_H} {f a : Nat} {s : List Nat} (H : su_at o h f a s) : s ≠ [] := by
  cases f with
  | zero => exact H.elim
  | succ f =>
    obtain ⟨-, H⟩ := H
    rcases H with ⟨n, -, -, e⟩ | ⟨n, -, -, e⟩ | ⟨ci, c, b1, b2, s1, s2, -, -, -, -, e⟩ <;> rw [e] <;> simp
theorem tr_at.ne {o : Nat → Nat} {h : nd_H} {F f a : Nat} {s : List Nat} (H : tr_at o h F f a s) : s ≠ [] := by
  cases F with
  | zero => exact H.elim
  | succ F =>
    obtain ⟨-, H⟩ := H
    rcases H with ⟨f1, b, s1, -, -, -, e⟩ | ⟨f1, sg, c, b1, b2, s1, s2, -, -, -, -, -, e⟩ | ⟨f1, b1, b2, s1, s2, -, -, -, -, e⟩ | ⟨f1, b1, b2, s1, s2, -, -, -, -, e⟩ <;> rw [e] <;> simp
/-- a list that grows: its row belongs to it -/
def rd_l (o : Nat → Nat) (h : nd_H) (a : Nat) (ws : List Nat) : Prop := (ws = [] ∧ ∃ m, h[a]? = some (.inr (nJ2, [.int m, .float 201, .int (nI 0)]))) ∨ ∃ m ed gf, o ed = a ∧ h[a]? = some (.inr (nJ2, [.int m, .ref ed, .int (nI ws.length)])) ∧ h[ed]? = some (.inl (10, 10, .inr (.inr gf))) ∧ ∀ i, i < ws.length → gf i = nd_f (1000 + (128 + ws.getD i 0))
theorem rd_l.sz {o : Nat → Nat} {h : nd_H} {a : Nat} {ws : List Nat} (H : rd_l o h a ws) : ∃ m ed, h[a]? = some (.inr (nJ2, [.int m, ed, .int (nI ws.length)])) := by
  rcases H with ⟨e, m, z⟩ | ⟨m, ed, gf, -, z, -⟩
  · exact ⟨m, _, by rw [e]; exact z⟩
  · exact ⟨m, _, z⟩
theorem rd_l.go {o o2 : Nat → Nat} {h h2 : nd_H} {a : Nat} {ws : List Nat} (H : rd_l o h a ws) (e : h2[a]? = h[a]?) (f : ∀ b, o b = a → h2[b]? = h[b]?) (fo : ∀ b, b < h.length → o2 b = o b) : rd_l o2 h2 a ws := by
  rcases H with ⟨e1, m, z⟩ | ⟨m, ed, gf, z1, z2, z3, z4⟩
  · exact Or.inl ⟨e1, m, e.trans z⟩
  · exact Or.inr ⟨m, ed, gf, (fo ed (nd_get_lt z3)).trans z1, e.trans z2, (f ed z1).trans z3, z4⟩
theorem cn_su.go {o o2 : Nat → Nat} {h h2 : nd_H} {v : Value} {s : List Nat} (H : cn_su o h v s) (f : fk o h h2) (fo : ∀ b, o b = 1 → o2 b = 1) : cn_su o2 h2 v s := by
  rcases H with H | ⟨hn, a, f1, e1, e2, e3⟩
  · exact Or.inl H
  · exact Or.inr ⟨hn, a, f1, e1, e2, (e3.k f).o2 fo⟩
theorem cn_tr.go {o o2 : Nat → Nat} {h h2 : nd_H} {v : Value} {s : List Nat} (H : cn_tr o h v s) (f : fk o h h2) (fo : ∀ b, o b = 1 → o2 b = 1) : cn_tr o2 h2 v s := by
  rcases H with H | ⟨hn, a, F, f1, e1, e2, e3⟩
  · exact Or.inl H
  · exact Or.inr ⟨hn, a, F, f1, e1, e2, (e3.k f).o2 fo⟩
/-- the napkin being made -/
def rd_N (o : Nat → Nat) (h : nd_H) (r : Nat) (N : tx_N) : Prop := ∃ wv kv hv, h[r + 2]? = some (.inr (nX3, [.ref (r + 3), .ref (r + 4), .ref (r + 5), .int (nI N.2.2.2.1), wv, kv, hv])) ∧ rd_l o h (r + 3) N.1 ∧ rd_l o h (r + 4) N.2.1 ∧ rd_l o h (r + 5) N.2.2.1 ∧ cn_su o h wv N.2.2.2.2.1 ∧ cn_tr o h hv N.2.2.2.2.2.1 ∧ cn_su o h kv N.2.2.2.2.2.2
/-- the reader's world -/
def rd_I (o : Nat → Nat) (h : nd_H) (r : Nat) (T : List Nat) (p m : Nat) (N : tx_N) : Prop := rd_T h T ∧ rd_w h (r + 1) ∧ rd_R h r (r + 1) (r + 2) T p 0 m ∧ rd_N o h r N ∧ (∀ a, o a ≠ 0 → r + 6 ≤ a ∧ a < h.length) ∧ m ≤ 8 ∧ 123 ≤ r
def rd_g (r : Nat) (h h2 : nd_H) : Prop := h.length ≤ h2.length ∧ ∀ a, a < r → h2[a]? = h[a]?
theorem rd_g.trans {r : Nat} {h h2 h3 : nd_H} (a : rd_g r h h2) (b : rd_g r h2 h3) : rd_g r h h3 := ⟨Nat.le_trans a.1 b.1, fun x hx => (b.2 x hx).trans (a.2 x hx)⟩
theorem rd_f.g {r : Nat} {h h2 : nd_H} (f : rd_f r h h2) (hr : r < h.length) : rd_g r h h2 := ⟨f.1, fun a ha => f.2 a (by omega) (by omega)⟩
theorem rd_g.rfl {r : Nat} {h : nd_H} : rd_g r h h := ⟨Nat.le_refl _, fun _ _ => Eq.refl _⟩
theorem rd_g.setG {r b : Nat} {h : nd_H} {c : nd_C} (hb : r ≤ b) : rd_g r h (h.set b c) := ⟨by rw [List.length_set]; exact Nat.le_refl _, fun a ha => List.getElem?_set_ne (by omega)⟩
theorem rd_N.f {o o2 : Nat → Nat} {h h2 : nd_H} {r : Nat} {N : tx_N} (H : rd_N o h r N) (hol : ∀ a, o a ≠ 0 → r + 6 ≤ a ∧ a < h.length) (f : rd_f r h h2) (fo : ∀ b, b < h.length → o2 b = o b) : rd_N o2 h2 r N := by
  obtain ⟨wv, kv, hv, a1, a2, a3, a4, a5, a6, a7⟩ := H
  have k : fk o h h2 := fun x hx => by have := hol x (by omega); exact f.2 x this.2 (by omega)
  have k2 : ∀ b, o b = 1 → o2 b = 1 := fun b hb => by have := hol b (by omega); rw [fo b this.2]; exact hb
  have ll : ∀ a ws, rd_l o h a ws → r < a → rd_l o2 h2 a ws := fun a ws z ha => z.go (f.2 a (by obtain ⟨m, ed, y⟩ := z.sz; exact nd_get_lt y) (by omega)) (fun b hb => by have := hol b (by omega); exact f.2 b this.2 (by omega)) fo
  exact ⟨wv, kv, hv, (f.2 _ (nd_get_lt a1) (by omega)).trans a1, ll _ _ a2 (by omega), ll _ _ a3 (by omega), ll _ _ a4 (by omega), a5.go k k2, a6.go k k2, a7.go k k2⟩
theorem rd_I.f {o : Nat → Nat} {h h2 : nd_H} {r p p2 m m2 : Nat} {T : List Nat} {N : tx_N} (H : rd_I o h r T p m N) (hR : rd_R h2 r (r + 1) (r + 2) T p2 0 m2) (f : rd_f r h h2) (hm : m2 ≤ 8) : rd_I o h2 r T p2 m2 N := by
  obtain ⟨a1, a2, a3, a4, a5, a6, a7⟩ := H
  exact ⟨a1.f f (by omega), a2.f f (by omega), hR, a4.f a5 f (fun _ _ => rfl), fun a ha => ⟨(a5 a ha).1, by have := f.1; have := (a5 a ha).2; omega⟩, hm, a7⟩
/-- a tree was read behind the reader's world -/
theorem rd_I.t {o o2 : Nat → Nat} {h h2 : nd_H} {r p p2 m : Nat} {T : List Nat} {N : tx_N} (H : rd_I o h r T p m N) (hR : rd_R h2 r (r + 1) (r + 2) T p2 0 m) (f : rd_f r h h2) (ho : rd_o o o2 h h2) : rd_I o2 h2 r T p2 m N := by
  obtain ⟨a1, a2, a3, a4, a5, a6, a7⟩ := H
  have hl : r + 6 ≤ h.length := by
    obtain ⟨wv, kv, hv, b1, b2, b3, b4, -⟩ := a4
    obtain ⟨m, ed, y⟩ := b4.sz
    have := nd_get_lt y
    omega
  refine ⟨a1.f f (by omega), a2.f f (by omega), hR, a4.f a5 f ho.1, fun a ha => ⟨?_, ho.2 a ha⟩, a6, a7⟩
  by_cases q : a < h.length
  · rw [ho.1 a q] at ha; exact (a5 a ha).1
  · omega
theorem rd_I.hl {o : Nat → Nat} {h : nd_H} {r p m : Nat} {T : List Nat} {N : tx_N} (H : rd_I o h r T p m N) : r + 6 ≤ h.length := by
  obtain ⟨-, -, -, ⟨wv, kv, hv, b1, b2, b3, b4, -⟩, -⟩ := H
  obtain ⟨m, ed, y⟩ := b4.sz
  have := nd_get_lt y
  omega
theorem tx_num_cases (T : List Nat) (hi q : Nat) : (tx_k T q = 2 ∧ tx_v T q ≤ hi ∧ tx_num T hi q = .inl ([tx_v T q], tx_h T q)) ∨ ∃ e, tx_num T hi q = .inr e := by
  unfold tx_num
  by_cases z : tx_k T q = 2
  · by_cases z2 : tx_v T q ≤ hi
    · exact Or.inl ⟨z, z2, by rw [if_pos z, if_pos z2]⟩
    · exact Or.inr ⟨_, by rw [if_pos z, if_neg z2]⟩
  · exact Or.inr ⟨_, by rw [if_neg z]⟩
theorem tx_w_len {T w : List Nat} {p : Nat} (h : tx_w T p w = true) : p + w.length ≤ tx_h T p := by
  have h0 := h
  unfold tx_w at h
  rw [Bool.and_eq_true, Bool.and_eq_true, decide_eq_true_iff, decide_eq_true_iff] at h
  have := tx_b_ge T p
  have := tx_h_ge T p
  omega
section RD99
variable {g : nd_G} {mm : nd_Mt} {d mc ms : Nat} {K : nd_K} {X : nd_X} {h : nd_H} {o : Nat → Nat} {T : List Nat} {r p m : Nat} {N : tx_N}
theorem rd_add (hg : nd_OK g) (hd : 3 ≤ d) {a v : Nat} {ws : List Nat} (hl : rd_l o h a ws) (hv : v < 100) (h9 : ws.length < 10) (hol : ∀ b, o b ≠ 0 → b < h.length) (hoa : o a ≠ a) (ha0 : a ≠ 0)
    (hk : ∀ h2 o2, h.length ≤ h2.length → (∀ b, b < h.length → b ≠ a → o b ≠ a → h2[b]? = h[b]?) → (∀ b, b < h.length → o2 b = o b) → (∀ b, o2 b ≠ 0 → b < h2.length) → rd_l o2 h2 a (ws ++ [v]) → K (.inl (some (.int (nI 1)))) h2) : nd_M g mJ2_add d 1 10 [.ref a, nd_f (1000 + (128 + v))] h K := by
  rcases hl with ⟨e, m, z⟩ | ⟨m, ed, gf, z1, z2, z3, z4⟩
  · subst e
    refine al_addI0 hg hd z (by omega) (fun h2 m2 l2 f2 b1 b2 => ?_)
    refine hk h2 (fun b => if b = h.length then a else o b) (by omega) (fun b y1 y2 _ => f2 b y2 y1) (fun b y => by show (if b = h.length then a else o b) = _; rw [if_neg (by omega)]) (fun b y => ?_) (Or.inr ⟨m2, h.length, _, by show (if h.length = h.length then a else _) = a; rw [if_pos rfl], b1, b2, fun i hi => ?_⟩)
    · have y : (if b = h.length then a else o b) ≠ 0 := y
      by_cases q : b = h.length
      · omega
      · rw [if_neg q] at y; have := hol b y; omega
    · have hi : i < 1 := hi
      have : i = 0 := by omega
      subst this
      show va_up _ 0 _ 0 = _
      unfold va_up
      rw [if_pos rfl]
      rfl
  · refine al_addI1 hg (by omega) z2 z3 (by omega) h9 (fun h2 m2 l2 f2 b1 b2 => ?_)
    refine hk h2 o (by omega) (fun b y1 y2 y3 => f2 b y2 (fun q => y3 (by rw [q]; exact z1))) (fun _ _ => rfl) (fun b y => by have := hol b y; omega) (Or.inr ⟨m2, ed, _, z1, by rw [List.length_append]; exact b1, b2, fun i hi => ?_⟩)
    rw [List.length_append] at hi
    have hi : i < ws.length + 1 := hi
    unfold va_up
    by_cases q : i = ws.length
    · rw [if_pos q, q, List.getD_eq_getElem?_getD, List.getElem?_append_right (Nat.le_refl _), Nat.sub_self]; rfl
    · rw [if_neg q, z4 i (by omega), List.getD_eq_getElem?_getD, List.getD_eq_getElem?_getD, List.getElem?_append_left (by omega)]
theorem rd_addF (hg : nd_OK g) (hd : 3 ≤ d) {v : Nat} (HI : rd_I o h r T p m N) (hv : v < 100) (h9 : N.1.length < 10) (hk : ∀ h2 o2, rd_I o2 h2 r T p m (N.1 ++ [v], N.2) → rd_g r h h2 → K (.inl (some (.int (nI 1)))) h2) : nd_M g mJ2_add d 1 10 [.ref (r + 3), nd_f (1000 + (128 + v))] h K := by
  have hl := HI.hl
  obtain ⟨a1, a2, a3, ⟨wv, kv, hv2, b1, b2, b3, b4, b5, b6, b7⟩, a5, a6, a7⟩ := HI
  have z0 : ∀ b, b < r + 6 → o b = 0 := fun b hb => by
    by_cases q : o b = 0
    · exact q
    · have := a5 b q; omega
  have zk := z0 (r + 3) (by omega)
  refine rd_add hg hd b2 hv h9 (fun b hb => (a5 b hb).2) (by omega) (by omega) (fun h2 o2 l2 f2 fo ol lb => ?_)
  have low : ∀ b, b < r + 6 → b ≠ r + 3 → h2[b]? = h[b]? := fun b h1 h3 => f2 b (by omega) h3 (by rw [z0 b h1]; omega)
  have kf : fk o h h2 := fun x hx => by have := a5 x (by omega); exact f2 x this.2 (by omega) (by omega)
  have ko : ∀ b, o b = 1 → o2 b = 1 := fun b hb => by have := a5 b (by omega); rw [fo b this.2]; exact hb
  have ll : ∀ a ws, rd_l o h a ws → a < r + 6 → r < a → a ≠ r + 3 → rd_l o2 h2 a ws := fun a ws z h1 h3 h4 => z.go (low a h1 h4) (fun b hb => by have := a5 b (by omega); exact f2 b this.2 (by omega) (by omega)) fo
  obtain ⟨tf, t1, t2⟩ := a1
  refine hk h2 o2 ⟨⟨tf, (low 92 (by omega) (by omega)).trans t1, t2⟩, (by obtain ⟨wf, y1, y2⟩ := a2; exact ⟨wf, (low _ (by omega) (by omega)).trans y1, y2⟩), a3.f (low _ (by omega) (by omega)), ⟨wv, kv, hv2, (low _ (by omega) (by omega)).trans b1, lb, ll _ _ b3 (by omega) (by omega) (by omega), ll _ _ b4 (by omega) (by omega) (by omega), b5.go kf ko, b6.go kf ko, b7.go kf ko⟩, fun a ha => ⟨?_, ol a ha⟩, a6, a7⟩ ⟨l2, fun a ha => low a (by omega) (by omega)⟩
  by_cases q : a < h.length
  · rw [fo a q] at ha; exact (a5 a ha).1
  · omega
theorem rd_addB (hg : nd_OK g) (hd : 3 ≤ d) {v : Nat} (HI : rd_I o h r T p m N) (hv : v < 100) (h9 : N.2.1.length < 10) (hk : ∀ h2 o2, rd_I o2 h2 r T p m (N.1, N.2.1 ++ [v], N.2.2) → rd_g r h h2 → K (.inl (some (.int (nI 1)))) h2) : nd_M g mJ2_add d 1 10 [.ref (r + 4), nd_f (1000 + (128 + v))] h K := by
  have hl := HI.hl
  obtain ⟨a1, a2, a3, ⟨wv, kv, hv2, b1, b2, b3, b4, b5, b6, b7⟩, a5, a6, a7⟩ := HI
  have z0 : ∀ b, b < r + 6 → o b = 0 := fun b hb => by
    by_cases q : o b = 0
    · exact q
    · have := a5 b q; omega
  have zk := z0 (r + 4) (by omega)
  refine rd_add hg hd b3 hv h9 (fun b hb => (a5 b hb).2) (by omega) (by omega) (fun h2 o2 l2 f2 fo ol lb => ?_)
  have low : ∀ b, b < r + 6 → b ≠ r + 4 → h2[b]? = h[b]? := fun b h1 h3 => f2 b (by omega) h3 (by rw [z0 b h1]; omega)
  have kf : fk o h h2 := fun x hx => by have := a5 x (by omega); exact f2 x this.2 (by omega) (by omega)
  have ko : ∀ b, o b = 1 → o2 b = 1 := fun b hb => by have := a5 b (by omega); rw [fo b this.2]; exact hb
  have ll : ∀ a ws, rd_l o h a ws → a < r + 6 → r < a → a ≠ r + 4 → rd_l o2 h2 a ws := fun a ws z h1 h3 h4 => z.go (low a h1 h4) (fun b hb => by have := a5 b (by omega); exact f2 b this.2 (by omega) (by omega)) fo
  obtain ⟨tf, t1, t2⟩ := a1
  refine hk h2 o2 ⟨⟨tf, (low 92 (by omega) (by omega)).trans t1, t2⟩, (by obtain ⟨wf, y1, y2⟩ := a2; exact ⟨wf, (low _ (by omega) (by omega)).trans y1, y2⟩), a3.f (low _ (by omega) (by omega)), ⟨wv, kv, hv2, (low _ (by omega) (by omega)).trans b1, ll _ _ b2 (by omega) (by omega) (by omega), lb, ll _ _ b4 (by omega) (by omega) (by omega), b5.go kf ko, b6.go kf ko, b7.go kf ko⟩, fun a ha => ⟨?_, ol a ha⟩, a6, a7⟩ ⟨l2, fun a ha => low a (by omega) (by omega)⟩
  by_cases q : a < h.length
  · rw [fo a q] at ha; exact (a5 a ha).1
  · omega
theorem rd_addG (hg : nd_OK g) (hd : 3 ≤ d) {v : Nat} (HI : rd_I o h r T p m N) (hv : v < 100) (h9 : N.2.2.1.length < 10) (hk : ∀ h2 o2, rd_I o2 h2 r T p m (N.1, N.2.1, N.2.2.1 ++ [v], N.2.2.2) → rd_g r h h2 → K (.inl (some (.int (nI 1)))) h2) : nd_M g mJ2_add d 1 10 [.ref (r + 5), nd_f (1000 + (128 + v))] h K := by
  have hl := HI.hl
  obtain ⟨a1, a2, a3, ⟨wv, kv, hv2, b1, b2, b3, b4, b5, b6, b7⟩, a5, a6, a7⟩ := HI
  have z0 : ∀ b, b < r + 6 → o b = 0 := fun b hb => by
    by_cases q : o b = 0
    · exact q
    · have := a5 b q; omega
  have zk := z0 (r + 5) (by omega)
  refine rd_add hg hd b4 hv h9 (fun b hb => (a5 b hb).2) (by omega) (by omega) (fun h2 o2 l2 f2 fo ol lb => ?_)
  have low : ∀ b, b < r + 6 → b ≠ r + 5 → h2[b]? = h[b]? := fun b h1 h3 => f2 b (by omega) h3 (by rw [z0 b h1]; omega)
  have kf : fk o h h2 := fun x hx => by have := a5 x (by omega); exact f2 x this.2 (by omega) (by omega)
  have ko : ∀ b, o b = 1 → o2 b = 1 := fun b hb => by have := a5 b (by omega); rw [fo b this.2]; exact hb
  have ll : ∀ a ws, rd_l o h a ws → a < r + 6 → r < a → a ≠ r + 5 → rd_l o2 h2 a ws := fun a ws z h1 h3 h4 => z.go (low a h1 h4) (fun b hb => by have := a5 b (by omega); exact f2 b this.2 (by omega) (by omega)) fo
  obtain ⟨tf, t1, t2⟩ := a1
  refine hk h2 o2 ⟨⟨tf, (low 92 (by omega) (by omega)).trans t1, t2⟩, (by obtain ⟨wf, y1, y2⟩ := a2; exact ⟨wf, (low _ (by omega) (by omega)).trans y1, y2⟩), a3.f (low _ (by omega) (by omega)), ⟨wv, kv, hv2, (low _ (by omega) (by omega)).trans b1, ll _ _ b2 (by omega) (by omega) (by omega), ll _ _ b3 (by omega) (by omega) (by omega), lb, b5.go kf ko, b6.go kf ko, b7.go kf ko⟩, fun a ha => ⟨?_, ol a ha⟩, a6, a7⟩ ⟨l2, fun a ha => low a (by omega) (by omega)⟩
  by_cases q : a < h.length
  · rw [fo a q] at ha; exact (a5 a ha).1
  · omega
theorem rd_law1 (hg : nd_OK g) (hd : 7 ≤ d) (HI : rd_I o h r T p m N) (hp : p ≤ T.length) {m2 : Nat} (hm2 : m2 ≤ 8) (hz : tx_k T p = 58) (hk : ∀ h2, rd_I o h2 r T (tx_h T p) m2 N → rd_g r h h2 → K (.inl none) h2) : nd_M g mX8_law d 0 0 [.ref r, .int (nI m2)] h K := by
  have hl := HI.hl
  obtain ⟨a1, a2, a3, a4, a5, a6, a7⟩ := id HI
  obtain ⟨nu, hb, -⟩ := id a3
  refine nd_enter hg (by decide) rfl (Nat.le_of_ble_eq_true rfl) (fun X hC => ?_)
  refine nd_aload_n hC dX8_law_0 rfl rfl ?_
  refine nd_bipush hC (v := nI 58) (by rfl) dX8_law_1 ?_
  refine nd_callV (mm2 := mX8_must_2) (As := [_]) (mc2 := 0) (ms2 := 0) (d2 := d - 1) hC rfl lkX8_137 ⟨rfl, lmX8_must_2⟩ (hb) rfl (Nat.le_of_ble_eq_true rfl) (by omega) rfl (by exact Nat.le_of_ble_eq_true rfl) (by omega) (by omega) dX8_law_3 rfl ((rd_mustC1 hg (by omega) a1 (by omega) hp a3 (by omega) (by omega) hz (fun h2 b1 b2 b3 => ?_)))
  obtain ⟨nu2, hb2, hn2⟩ := id b1
  refine nd_aload_n hC dX8_law_6 rfl rfl ?_
  refine nd_iload_n hC dX8_law_7 rfl ?_
  refine nd_put (ci := nX8) hC in_X8 rfl hb2 9 (by decide) tyX8 tyX8_ok (by decide +kernel) q1633 (fun _ z => z) rfl rfl rfl (by show 9 < 10; decide) dX8_law_8 ?_
  have f9 : rd_f r h (h2.set r (rd_c (r + 1) (r + 2) T.length (nI (tx_b T (tx_h T p))) (nI (tx_h T (tx_h T p))) (nI (kd (tx_k T (tx_h T p)))) nu2 0 m2)) := b2.trans rd_f.set
  refine nd_return hC rfl (by omega) (by omega) dX8_law_11 ((hk _ (HI.f ⟨nu2, List.getElem?_set_self (nd_get_lt hb2), hn2⟩ f9 hm2) (f9.g (by omega))))
theorem rd_law0 (hg : nd_OK g) (hd : 7 ≤ d) (HI : rd_I o h r T p m N) (hp : p ≤ T.length) {m2 : Nat} (hz : tx_k T p ≠ 58) (he : ∀ h2 k, rd_g r h h2 → rd_B h2 k (tx_e T p 2) → K (.inr (eBad, k)) h2) : nd_M g mX8_law d 1 8 [.ref r, .int (nI m2)] h K := by
  have hl := HI.hl
  obtain ⟨a1, a2, a3, a4, a5, a6, a7⟩ := id HI
  obtain ⟨nu, hb, -⟩ := id a3
  refine nd_enter hg (by decide) rfl (Nat.le_of_ble_eq_true rfl) (fun X hC => ?_)
  refine nd_aload_n hC dX8_law_0 rfl rfl ?_
  refine nd_bipush hC (v := nI 58) (by rfl) dX8_law_1 ?_
  refine nd_callV (mm2 := mX8_must_2) (As := [_]) (mc2 := 1) (ms2 := 8) (d2 := d - 1) hC rfl lkX8_137 ⟨rfl, lmX8_must_2⟩ (hb) rfl (Nat.le_of_ble_eq_true rfl) (by omega) rfl (by exact Nat.le_of_ble_eq_true rfl) (by omega) (by omega) dX8_law_3 rfl ((rd_mustC0 hg (by omega) a1 (by omega) hp a3 (by omega) (by omega) hz ?_))
  intro h2 k f2 b2
  exact nd_out hC rfl (by omega) (by omega) (he h2 k (f2.g (by omega)) b2)
end RD99

