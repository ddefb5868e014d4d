set_option maxRecDepth 100000
/-! ===== codes tell looks apart; how many kinds ===== -/
theorem lk_lt12 {n : Nat} {l : List (List Nat)} (hok : lk_ok n l) (hn : n ≤ 6) {t : Nat} (ht : t < l.length) : ∀ x ∈ l.getD t [], x < 12 := by
  intro x hx
  obtain ⟨i, hi, e⟩ := List.mem_iff_getElem.mp hx
  have M := lk_at_lt hok hn (lk_col_at hok ht hi)
  rw [List.getD_eq_getElem?_getD, List.getElem?_eq_getElem hi] at M
  rw [← e]
  exact M.1
def dg_v : List Nat → Nat
  | [] => 1
  | d :: r => 13 * dg_v r + d
theorem dg_pos : ∀ a, 1 ≤ dg_v a := by
  intro a
  induction a with
  | nil => exact Nat.le_refl _
  | cons d r ih => show 1 ≤ 13 * dg_v r + d; omega
theorem dg_inj : ∀ a b, (∀ x ∈ a, x < 13) → (∀ x ∈ b, x < 13) → dg_v a = dg_v b → a = b := by
  intro a
  induction a with
  | nil =>
    intro b ha hb e
    cases b with
    | nil => rfl
    | cons d r =>
      have h1 := dg_pos r
      have h2 : (1 : Nat) = 13 * dg_v r + d := e
      omega
  | cons d r ih =>
    intro b ha hb e
    cases b with
    | nil =>
      have h1 := dg_pos r
      have h2 : 13 * dg_v r + d = 1 := e
      omega
    | cons d2 r2 =>
      have h2 : 13 * dg_v r + d = 13 * dg_v r2 + d2 := e
      have h3 := ha d (List.mem_cons_self ..)
      have h4 := hb d2 (List.mem_cons_self ..)
      rw [ih r2 (fun x hx => ha x (List.mem_cons_of_mem _ hx)) (fun x hx => hb x (List.mem_cons_of_mem _ hx)) (by omega), show d = d2 by omega]
/-- digits, the last first -/
def dg_l (l : List (List Nat)) : Nat → List Nat
  | 0 => []
  | t + 1 => 12 :: ((l.getD t []).reverse ++ dg_l l t)
theorem dg_col (c : Nat) (X : List Nat) (hc : c = dg_v X) (col : List Nat) : ∀ k, k ≤ col.length → cd_col c col k = dg_v ((col.take k).reverse ++ X) := by
  intro k
  induction k with
  | zero => intro _; rw [List.take_zero]; exact hc
  | succ k ih =>
    intro hk
    rw [l_take_snoc (by omega), List.reverse_append]
    show 13 * cd_col c col k + col.getD k 0 = 13 * dg_v _ + col.getD k 0
    rw [ih (by omega)]
    rfl
theorem dg_all (l : List (List Nat)) : ∀ t, cd_all l t = dg_v (dg_l l t) := by
  intro t
  induction t with
  | zero => rfl
  | succ t ih =>
    show 13 * cd_col (cd_all l t) (l.getD t []) (l.getD t []).length + 12 = 13 * dg_v ((l.getD t []).reverse ++ dg_l l t) + 12
    rw [dg_col _ _ ih _ _ (Nat.le_refl _), List.take_length]
theorem dg_13 {l : List (List Nat)} (h : ∀ t, t < l.length → ∀ x ∈ l.getD t [], x < 12) : ∀ t, t ≤ l.length → ∀ x ∈ dg_l l t, x < 13 := by
  intro t
  induction t with
  | zero => intro _ x hx; cases hx
  | succ t ih =>
    intro ht x hx
    rcases List.mem_cons.mp hx with e | e
    · omega
    · rcases List.mem_append.mp e with e | e
      · have := h t (by omega) x (List.mem_reverse.mp e)
        omega
      · exact ih (by omega) x e
def dg_h (D : List Nat) : Prop := D = [] ∨ ∃ r, D = 12 :: r
theorem dg_split : ∀ (X Y D E : List Nat), (∀ x ∈ X, x < 12) → (∀ x ∈ Y, x < 12) → dg_h D → dg_h E → X ++ D = Y ++ E → X = Y ∧ D = E := by
  intro X
  induction X with
  | nil =>
    intro Y D E hX hY hD hE e
    cases Y with
    | nil => exact ⟨rfl, e⟩
    | cons y Y =>
      have h1 := hY y (List.mem_cons_self ..)
      rcases hD with z | ⟨r, z⟩
      · rw [z] at e; cases e
      · rw [z] at e
        have h2 : (12 : Nat) = y := (List.cons.inj e).1
        omega
  | cons x X ih =>
    intro Y D E hX hY hD hE e
    cases Y with
    | nil =>
      have h1 := hX x (List.mem_cons_self ..)
      rcases hE with z | ⟨r, z⟩
      · rw [z] at e; cases e
      · rw [z] at e
        have h2 : x = (12 : Nat) := (List.cons.inj e).1
        omega
    | cons y Y =>
      have h2 := List.cons.inj e
      obtain ⟨q1, q2⟩ := ih Y D E (fun a ha => hX a (List.mem_cons_of_mem _ ha)) (fun a ha => hY a (List.mem_cons_of_mem _ ha)) hD hE h2.2
      exact ⟨by rw [h2.1, q1], q2⟩
theorem dg_hh (l : List (List Nat)) : ∀ t, dg_h (dg_l l t) := by
  intro t
  cases t with
  | zero => exact Or.inl rfl
  | succ t => exact Or.inr ⟨_, rfl⟩
theorem dg_eq {l1 l2 : List (List Nat)} (h1 : ∀ t, t < l1.length → ∀ x ∈ l1.getD t [], x < 12) (h2 : ∀ t, t < l2.length → ∀ x ∈ l2.getD t [], x < 12) : ∀ t1 t2, t1 ≤ l1.length → t2 ≤ l2.length → dg_l l1 t1 = dg_l l2 t2 → t1 = t2 ∧ ∀ t, t < t1 → l1.getD t [] = l2.getD t [] := by
  intro t1
  induction t1 with
  | zero =>
    intro t2 a b e
    cases t2 with
    | zero => exact ⟨rfl, fun t ht => absurd ht (Nat.not_lt_zero _)⟩
    | succ t2 => cases e
  | succ t1 ih =>
    intro t2 a b e
    cases t2 with
    | zero => cases e
    | succ t2 =>
      have e2 := (List.cons.inj e).2
      obtain ⟨q1, q2⟩ := dg_split _ _ _ _ (fun x hx => h1 t1 (by omega) x (List.mem_reverse.mp hx)) (fun x hx => h2 t2 (by omega) x (List.mem_reverse.mp hx)) (dg_hh l1 t1) (dg_hh l2 t2) e2
      obtain ⟨q3, q4⟩ := ih t2 (by omega) (by omega) q2
      refine ⟨by omega, fun t ht => ?_⟩
      by_cases z : t = t1
      · subst z; rw [q3] at q1 ⊢; exact List.reverse_inj.mp q1
      · exact q4 t (by omega)
theorem l_ext_getD {l1 l2 : List (List Nat)} (h : l1.length = l2.length) (e : ∀ t, t < l1.length → l1.getD t [] = l2.getD t []) : l1 = l2 := by
  apply List.ext_getElem h
  intro i a b
  have := e i a
  rw [List.getD_eq_getElem?_getD, List.getD_eq_getElem?_getD, List.getElem?_eq_getElem a, List.getElem?_eq_getElem b] at this
  exact this
theorem l_ext_nat {l1 l2 : List Nat} (h : l1.length = l2.length) (e : ∀ t, t < l1.length → l1.getD t 0 = l2.getD t 0) : l1 = l2 := by
  apply List.ext_getElem h
  intro i a b
  have := e i a
  rw [List.getD_eq_getElem?_getD, List.getD_eq_getElem?_getD, List.getElem?_eq_getElem a, List.getElem?_eq_getElem b] at this
  exact this
/-- the class's number tells looks apart -/
theorem cd_inj {n : Nat} {l1 l2 : List (List Nat)} (k1 : lk_ok n l1) (k2 : lk_ok n l2) (hn : n ≤ 6) (e : cd_all l1 l1.length = cd_all l2 l2.length) : l1 = l2 := by
  have a1 : ∀ t, t < l1.length → ∀ x ∈ l1.getD t [], x < 12 := fun t ht => lk_lt12 k1 hn ht
  have a2 : ∀ t, t < l2.length → ∀ x ∈ l2.getD t [], x < 12 := fun t ht => lk_lt12 k2 hn ht
  rw [dg_all, dg_all] at e
  have e2 := dg_inj _ _ (dg_13 a1 _ (Nat.le_refl _)) (dg_13 a2 _ (Nat.le_refl _)) e
  obtain ⟨q1, q2⟩ := dg_eq a1 a2 _ _ (Nat.le_refl _) (Nat.le_refl _) e2
  exact l_ext_getD q1 q2
theorem dg_lt : ∀ a : List Nat, (∀ x ∈ a, x < 13) → dg_v a < 2 * 13 ^ a.length := by
  intro a
  induction a with
  | nil => intro _; decide
  | cons d r ih =>
    intro h
    have h1 := ih (fun x hx => h x (List.mem_cons_of_mem _ hx))
    have h2 := h d (List.mem_cons_self ..)
    show 13 * dg_v r + d < 2 * 13 ^ (r.length + 1)
    rw [Nat.pow_succ]
    omega
theorem dg_len (l : List (List Nat)) : ∀ t, t ≤ l.length → (dg_l l t).length = (l.take t).flatten.length + t := by
  intro t
  induction t with
  | zero => intro _; rfl
  | succ t ih =>
    intro ht
    have e : l.take (t + 1) = l.take t ++ [l.getD t []] := by
      rw [List.take_succ, List.getD_eq_getElem?_getD, List.getElem?_eq_getElem (by omega)]
      rfl
    show ((l.getD t []).reverse ++ dg_l l t).length + 1 = _
    rw [e, List.flatten_append, List.length_append, List.length_append, List.length_reverse, ih (by omega)]
    simp
    omega
theorem cd_lt {n : Nat} {l : List (List Nat)} (k : lk_ok n l) (hn : n ≤ 6) : cd_all l l.length < 2 ^ 62 := by
  rw [dg_all]
  have h1 := dg_lt _ (dg_13 (fun t ht => lk_lt12 k hn ht) l.length (Nat.le_refl _))
  rw [dg_len l _ (Nat.le_refl _), List.take_length, lk_len k] at h1
  have h2 := lk_width k
  have h3 : 13 ^ (n + l.length) ≤ 13 ^ 12 := Nat.pow_le_pow_right (by decide) (by omega)
  have h4 : 2 * 13 ^ 12 < 2 ^ 62 := by decide
  omega
/-- the reference's number tells looks apart -/
theorem lk_code_dig {n : Nat} {l1 l2 : List (List Nat)} (hl : ∀ c, c < n → lk_pos l1 c < 96 ∧ lk_pos l2 c < 96) : ∀ k, k ≤ n → lk_code l1 k = lk_code l2 k → ∀ c, c < k → lk_pos l1 c = lk_pos l2 c := by
  intro k
  induction k with
  | zero => intro _ _ c hc; omega
  | succ k ih =>
    intro hk e c hc
    have e2 : 128 * lk_code l1 k + lk_pos l1 k = 128 * lk_code l2 k + lk_pos l2 k := e
    have h1 := hl k (by omega)
    by_cases z : c = k
    · subst z; omega
    · exact ih (by omega) (by omega) c (by omega)
theorem lk_at_same {n : Nat} {l1 l2 : List (List Nat)} (k1 : lk_ok n l1) (k2 : lk_ok n l2) (hn : n ≤ 6) (e : ∀ c, c < n → lk_pos l1 c = lk_pos l2 c) {x t i : Nat} (h : lk_at l1 x t i) : lk_at l2 x t i := by
  have hx : x / 2 < n := List.mem_range.mp (k1.1.mem_iff.mp (List.mem_map.mpr ⟨x, lk_at_mem h, rfl⟩))
  obtain ⟨y, u, j, hy, ey⟩ := lk_there k2 hx
  have p1 := lk_pos_eq k1 h
  have p2 := lk_pos_eq k2 hy
  rw [ey] at p2
  rw [e _ hx, p2] at p1
  have b1 := lk_at_lt k1 hn h
  have b2 := lk_at_lt k2 hn hy
  rw [show x = y by omega, show t = u by omega, show i = j by omega]
  exact hy
theorem lk_same {n : Nat} {l1 l2 : List (List Nat)} (k1 : lk_ok n l1) (k2 : lk_ok n l2) (hn : n ≤ 6) (e : ∀ c, c < n → lk_pos l1 c = lk_pos l2 c) : l1 = l2 := by
  have e2 : ∀ c, c < n → lk_pos l2 c = lk_pos l1 c := fun c hc => (e c hc).symm
  have len : ∀ {a b : List (List Nat)}, lk_ok n a → lk_ok n b → (∀ c, c < n → lk_pos a c = lk_pos b c) → a.length ≤ b.length := by
    intro a b ka kb h
    apply Nat.le_of_not_lt
    intro z
    have q := lk_at_same ka kb hn h (lk_col_at ka (t := b.length) (i := 0) z (lk_col_pos ka z))
    exact absurd q.1 (Nat.lt_irrefl _)
  have hl : l1.length = l2.length := Nat.le_antisymm (len k1 k2 e) (len k2 k1 e2)
  have col : ∀ {a b : List (List Nat)}, lk_ok n a → lk_ok n b → (∀ c, c < n → lk_pos a c = lk_pos b c) → ∀ t, t < a.length → (a.getD t []).length ≤ (b.getD t []).length := by
    intro a b ka kb h t ht
    apply Nat.le_of_not_lt
    intro z
    have q := lk_at_same ka kb hn h (lk_col_at ka (t := t) (i := (b.getD t []).length) ht z)
    exact absurd q.2.1 (Nat.lt_irrefl _)
  refine l_ext_getD hl (fun t ht => ?_)
  have hc : (l1.getD t []).length = (l2.getD t []).length := Nat.le_antisymm (col k1 k2 e t ht) (col k2 k1 e2 t (by omega))
  exact l_ext_nat hc (fun i a => ((lk_at_same k1 k2 hn e (lk_col_at k1 ht a)).2.2).symm)
theorem lk_code_lt {n : Nat} {l : List (List Nat)} (k : lk_ok n l) (hn : n ≤ 6) : ∀ c, c ≤ n → lk_code l c < 128 ^ c := by
  intro c
  induction c with
  | zero => intro _; exact Nat.one_pos
  | succ c ih =>
    intro hc
    have h1 := ih (by omega)
    have h2 := lk_pos_lt k hn (c := c) (by omega)
    show 128 * lk_code l c + lk_pos l c < 128 ^ (c + 1)
    rw [Nat.pow_succ]
    omega
theorem lN_inj {a b : Nat} (ha : a < 2 ^ 63) (hb : b < 2 ^ 63) (e : lN a = lN b) : a = b := by
  have e2 : (lN a).toBitVec.toNat = (lN b).toBitVec.toNat := by rw [e]
  rw [wb_tn (by omega), wb_tn (by omega)] at e2
  exact e2
/-- both numbers tell the same apart -/
theorem cd_code {n : Nat} {l1 l2 : List (List Nat)} (k1 : lk_ok n l1) (k2 : lk_ok n l2) (hn : n ≤ 6) : lN (cd_all l1 l1.length) = lN (cd_all l2 l2.length) ↔ lN (lk_code l1 n) = lN (lk_code l2 n) := by
  have b : ∀ {l}, lk_ok n l → lk_code l n < 2 ^ 63 := fun {l} k => by
    have h1 := lk_code_lt k hn n (Nat.le_refl _)
    have h2 : 128 ^ n ≤ 128 ^ 6 := Nat.pow_le_pow_right (by decide) hn
    have h3 : 128 ^ 6 < 2 ^ 63 := by decide
    omega
  constructor
  · intro e
    have h1 := cd_lt k1 hn
    have h2 := cd_lt k2 hn
    rw [cd_inj k1 k2 hn (lN_inj (by omega) (by omega) e)]
  · intro e
    rw [lk_same k1 k2 hn (lk_code_dig (fun c hc => ⟨lk_pos_lt k1 hn hc, lk_pos_lt k2 hn hc⟩) n (Nat.le_refl _) (lN_inj (b k1) (b k2) e))]
/-! how many kinds -/
theorem un_spec (cond : lv_E → Bool) (code : lv_E → Int64) : ∀ (xs : List lv_E) (s : List Int64), s.Nodup → (lv_go (se_un cond code) s xs).1.Nodup ∧ ∀ v, v ∈ (lv_go (se_un cond code) s xs).1 ↔ v ∈ s ∨ ∃ x ∈ xs, cond x = true ∧ code x = v := by
  intro xs
  induction xs with
  | nil => intro s hs; exact ⟨hs, fun v => ⟨Or.inl, fun h => by rcases h with h | ⟨x, hx, -⟩; exact h; cases hx⟩⟩
  | cons x xs ih =>
    intro s hs
    show (lv_go (se_un cond code) (se_un cond code s x).1 xs).1.Nodup ∧ _
    by_cases hc : cond x = true
    · by_cases hm : code x ∈ s
      · have e : (se_un cond code s x).1 = s := by unfold se_un; simp [hc, hm]
        rw [e]
        obtain ⟨q1, q2⟩ := ih s hs
        refine ⟨q1, fun v => ?_⟩
        show v ∈ (lv_go (se_un cond code) (se_un cond code s x).1 xs).1 ↔ _
        rw [e, q2]
        constructor
        · rintro (h | ⟨y, hy, h1, h2⟩)
          · exact Or.inl h
          · exact Or.inr ⟨y, List.mem_cons_of_mem _ hy, h1, h2⟩
        · rintro (h | ⟨y, hy, h1, h2⟩)
          · exact Or.inl h
          · rcases List.mem_cons.mp hy with z | z
            · subst z; rw [← h2]; exact Or.inl hm
            · exact Or.inr ⟨y, z, h1, h2⟩
      · have e : (se_un cond code s x).1 = code x :: s := by unfold se_un; simp [hc, hm]
        rw [e]
        obtain ⟨q1, q2⟩ := ih (code x :: s) (List.nodup_cons.mpr ⟨hm, hs⟩)
        refine ⟨q1, fun v => ?_⟩
        show v ∈ (lv_go (se_un cond code) (se_un cond code s x).1 xs).1 ↔ _
        rw [e, q2]
        constructor
        · rintro (h | ⟨y, hy, h1, h2⟩)
          · rcases List.mem_cons.mp h with z | z
            · exact Or.inr ⟨x, List.mem_cons_self .., hc, z.symm⟩
            · exact Or.inl z
          · exact Or.inr ⟨y, List.mem_cons_of_mem _ hy, h1, h2⟩
        · rintro (h | ⟨y, hy, h1, h2⟩)
          · exact Or.inl (List.mem_cons_of_mem _ h)
          · rcases List.mem_cons.mp hy with z | z
            · subst z; rw [← h2]; exact Or.inl (List.mem_cons_self ..)
            · exact Or.inr ⟨y, z, h1, h2⟩
    · have e : (se_un cond code s x).1 = s := by unfold se_un; simp [hc]
      rw [e]
      obtain ⟨q1, q2⟩ := ih s hs
      refine ⟨q1, fun v => ?_⟩
      show v ∈ (lv_go (se_un cond code) (se_un cond code s x).1 xs).1 ↔ _
      rw [e, q2]
      constructor
      · rintro (h | ⟨y, hy, h1, h2⟩)
        · exact Or.inl h
        · exact Or.inr ⟨y, List.mem_cons_of_mem _ hy, h1, h2⟩
      · rintro (h | ⟨y, hy, h1, h2⟩)
        · exact Or.inl h
        · rcases List.mem_cons.mp hy with z | z
          · subst z; exact absurd h1 hc
          · exact Or.inr ⟨y, z, h1, h2⟩
theorem un_rep (cond : lv_E → Bool) (c1 c2 : lv_E → Int64) (P : lv_E → Prop) (hP : ∀ x y, P x → P y → cond x = true → cond y = true → (c1 x = c1 y ↔ c2 x = c2 y)) : ∀ (xs R : List lv_E), (∀ x ∈ xs, P x) → (∀ x ∈ R, P x ∧ cond x = true) → (lv_go (se_un cond c1) (R.map c1) xs).1.length = (lv_go (se_un cond c2) (R.map c2) xs).1.length := by
  intro xs
  induction xs with
  | nil => intro R _ _; show (R.map c1).length = (R.map c2).length; rw [List.length_map, List.length_map]
  | cons x xs ih =>
    intro R hx hR
    show (lv_go (se_un cond c1) (se_un cond c1 (R.map c1) x).1 xs).1.length = (lv_go (se_un cond c2) (se_un cond c2 (R.map c2) x).1 xs).1.length
    have hxs : ∀ y ∈ xs, P y := fun y hy => hx y (List.mem_cons_of_mem _ hy)
    by_cases hc : cond x = true
    · have hm : c1 x ∈ R.map c1 ↔ c2 x ∈ R.map c2 := by
        rw [List.mem_map, List.mem_map]
        constructor
        · rintro ⟨y, hy, e⟩
          exact ⟨y, hy, (hP y x (hR y hy).1 (hx x (List.mem_cons_self ..)) (hR y hy).2 hc).mp e⟩
        · rintro ⟨y, hy, e⟩
          exact ⟨y, hy, (hP y x (hR y hy).1 (hx x (List.mem_cons_self ..)) (hR y hy).2 hc).mpr e⟩
      by_cases h1 : c1 x ∈ R.map c1
      · have h2 := hm.mp h1
        have e1 : (se_un cond c1 (R.map c1) x).1 = R.map c1 := by unfold se_un; rw [if_pos hc, if_pos h1]
        have e2 : (se_un cond c2 (R.map c2) x).1 = R.map c2 := by unfold se_un; rw [if_pos hc, if_pos h2]
        rw [e1, e2]
        exact ih R hxs hR
      · have h2 := fun z => h1 (hm.mpr z)
        have e1 : (se_un cond c1 (R.map c1) x).1 = (x :: R).map c1 := by unfold se_un; rw [if_pos hc, if_neg h1]; rfl
        have e2 : (se_un cond c2 (R.map c2) x).1 = (x :: R).map c2 := by unfold se_un; rw [if_pos hc, if_neg h2]; rfl
        rw [e1, e2]
        refine ih (x :: R) hxs (fun y hy => ?_)
        rcases List.mem_cons.mp hy with z | z
        · subst z; exact ⟨hx y (List.mem_cons_self ..), hc⟩
        · exact hR y z
    · have e1 : (se_un cond c1 (R.map c1) x).1 = R.map c1 := by unfold se_un; rw [if_neg hc]
      have e2 : (se_un cond c2 (R.map c2) x).1 = R.map c2 := by unfold se_un; rw [if_neg hc]
      rw [e1, e2]
      exact ih R hxs hR
/-- what a search for unlike ones has put by: how many, the numbers -/
def uk_see (cond : lv_E → Bool) (code : lv_E → Int64) : List Int64 → lv_E → List Int64 := fun s x => if cond x = true then s ++ [code x] else s
theorem uk_fold (cond : lv_E → Bool) (code : lv_E → Int64) : ∀ (xs : List lv_E) (s : List Int64), xs.foldl (uk_see cond code) s = s ++ (xs.filter cond).map code := by
  intro xs
  induction xs with
  | nil => intro s; simp
  | cons x xs ih =>
    intro s
    rw [List.foldl_cons, ih]
    unfold uk_see
    by_cases hc : cond x = true
    · rw [if_pos hc, List.filter_cons_of_pos hc]; simp
    · rw [if_neg hc, List.filter_cons_of_neg hc]
/-- the sorted row's count, against the reference's -/
theorem uk_count {cond : lv_E → Bool} {c1 c2 : lv_E → Int64} {P : lv_E → Prop} {m : Nat} {l : List (List Nat)} {f f2 : Nat → Int64} {q : Nat} (hP : ∀ x y, P x → P y → cond x = true → cond y = true → (c1 x = c1 y ↔ c2 x = c2 y)) (hx : ∀ x ∈ lv_all m l, P x) (hq : q = ((df m [] l).foldl (uk_see cond c1) []).length) (hf : ∀ i, i < q → f i = ((df m [] l).foldl (uk_see cond c1) []).getD i 0) (hp : so_p 0 q f f2) (hs : so_s 0 q f2) : su_cnt f2 q = un_n cond c2 (lv_all m l) := by
  have e1 := un_rep cond c1 c2 P hP (lv_all m l) [] hx (fun x h => by cases h)
  obtain ⟨u1, u2⟩ := un_spec cond c1 (lv_all m l) [] List.nodup_nil
  have e2 := su_cnt_eq (D := (lv_go (se_un cond c1) [] (lv_all m l)).1) hp hs u1 (fun v => ?_)
  · rw [e2]; exact e1
  · rw [u2]
    rw [uk_fold, List.nil_append] at hq hf
    constructor
    · rintro (h | ⟨x, hx1, hx2, hx3⟩)
      · cases h
      · have hm : v ∈ ((df m [] l).filter cond).map c1 := List.mem_map.mpr ⟨x, List.mem_filter.mpr ⟨(df_perm m l).mem_iff.mpr hx1, hx2⟩, hx3⟩
        obtain ⟨i, hi, e⟩ := List.mem_iff_getElem.mp hm
        refine ⟨i, by omega, ?_⟩
        rw [hf i (by omega), List.getD_eq_getElem?_getD, List.getElem?_eq_getElem hi]
        exact e
    · rintro ⟨i, hi, e⟩
      have hi2 : i < (((df m [] l).filter cond).map c1).length := by omega
      rw [hf i hi, List.getD_eq_getElem?_getD, List.getElem?_eq_getElem hi2] at e
      have hm : v ∈ ((df m [] l).filter cond).map c1 := by rw [← e]; exact List.getElem_mem hi2
      obtain ⟨x, hx1, hx2⟩ := List.mem_map.mp hm
      obtain ⟨hx3, hx4⟩ := List.mem_filter.mp hx1
      exact Or.inr ⟨x, (df_perm m l).mem_iff.mp hx3, hx4, hx2⟩

