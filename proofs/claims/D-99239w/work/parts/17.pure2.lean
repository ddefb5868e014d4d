/-! ===== plain laws: rows of folds, marks, places, creases ===== -/
def lk_run (l : List (List Nat)) (fs : List Nat) : List (List Nat) := match fs with
  | [] => l
  | c :: t => lk_run (lk_fold l (c / 10) (c % 10)) t
def lk_val (l : List (List Nat)) (fs : List Nat) : Prop := match fs with
  | [] => True
  | c :: t => (1 ≤ c / 10 ∧ c / 10 < l.length ∧ c % 10 < 4) ∧ lk_val (lk_fold l (c / 10) (c % 10)) t
theorem lk_run_ok {n : Nat} (fs : List Nat) : ∀ {l : List (List Nat)}, lk_ok n l → lk_val l fs → lk_ok n (lk_run l fs) := by
  induction fs with
  | nil => intro l h _; exact h
  | cons c t ih => intro l h v; exact ih (lk_fold_ok h v.1.1 v.1.2.1) v.2
theorem lk_val_len (fs : List Nat) : ∀ {l : List (List Nat)}, lk_val l fs → fs = [] ∨ fs.length < l.length := by
  induction fs with
  | nil => intro l _; exact Or.inl rfl
  | cons c t ih =>
    intro l v
    right
    have hw : (lk_fold l (c / 10) (c % 10)).length < l.length := by
      rw [lk_fold_length]; unfold lk_wide; have := v.1; omega
    rcases ih v.2 with e | e
    · subst e; simp; have := v.1; omega
    · simp; omega
theorem lk_val_le {n : Nat} {fs : List Nat} (hn : n ≤ 6) (v : lk_val (lk_flat n) fs) : fs.length ≤ 5 := by
  rcases lk_val_len fs v with e | e
  · subst e; simp
  · have : (lk_flat n).length = n := by simp [lk_flat]
    omega
theorem lk_run_app (a b : List Nat) : ∀ l, lk_run l (a ++ b) = lk_run (lk_run l a) b := by
  induction a with
  | nil => intro l; rfl
  | cons c t ih => intro l; exact ih _
theorem lk_val_app (a b : List Nat) : ∀ l, lk_val l (a ++ b) ↔ lk_val l a ∧ lk_val (lk_run l a) b := by
  induction a with
  | nil => intro l; simp [lk_val, lk_run]
  | cons c t ih => intro l; simp only [List.cons_append, lk_val, lk_run, ih, and_assoc]
/-- the mark of a face -/
def lk_mk (fr bk : Nat → Int32) (x : Nat) : Int32 := if x % 2 = 1 then fr (x / 2) else bk (x / 2)
def lk_top (c : List Nat) : Nat := c.getD (c.length - 1) 0
def lk_bot (c : List Nat) : Nat := c.getD 0 0 ^^^ 1
def lk_hi (l : List (List Nat)) : Nat → Nat
  | 0 => 0
  | t + 1 => max (lk_hi l t) (l.getD t []).length
/-- sums of marks -/
def lk_tops (fr bk : Nat → Int32) (l : List (List Nat)) : Int32 := l_sum (fun t => lk_mk fr bk (lk_top (l.getD t []))) l.length
def lk_unders (fr bk : Nat → Int32) (l : List (List Nat)) : Int32 := l_sum (fun t => lk_mk fr bk (lk_bot (l.getD t []))) l.length
def lk_all (fr bk : Nat → Int32) (n : Nat) : Int32 := l_sum (fun c => fr c + bk c) n
/-- where a cell lies -/
def lk_at (l : List (List Nat)) (x t i : Nat) : Prop := t < l.length ∧ i < (l.getD t []).length ∧ (l.getD t []).getD i 0 = x
noncomputable def lk_pos (l : List (List Nat)) (c : Nat) : Nat := Classical.epsilon (fun v => ∃ x t i, lk_at l x t i ∧ x / 2 = c ∧ v = 16 * t + 2 * i + x % 2)
noncomputable def lk_cr (l : List (List Nat)) (k : Nat) : Nat := if lk_pos l k / 16 ≠ lk_pos l (k + 1) / 16 then 0 else if min (lk_pos l k) (lk_pos l (k + 1)) % 2 = 1 then 2 else 1
noncomputable def lk_crs (l : List (List Nat)) : Nat → Nat
  | 0 => 0
  | k + 1 => 3 * lk_crs l k + lk_cr l k
theorem lk_at_mem {l : List (List Nat)} {x t i : Nat} (h : lk_at l x t i) : x ∈ l.flatten := by
  obtain ⟨h1, h2, h3⟩ := h
  have e : l.getD t [] = l[t] := by rw [List.getD_eq_getElem?_getD, List.getElem?_eq_getElem h1]; rfl
  rw [e] at h2 h3
  rw [List.getD_eq_getElem?_getD, List.getElem?_eq_getElem h2] at h3
  simp only [Option.getD_some] at h3
  exact List.mem_flatten.mpr ⟨l[t], List.getElem_mem h1, h3 ▸ List.getElem_mem h2⟩
theorem lk_mem_at {l : List (List Nat)} {x : Nat} (h : x ∈ l.flatten) : ∃ t i, lk_at l x t i := by
  obtain ⟨c, hc, hx⟩ := List.mem_flatten.mp h
  obtain ⟨t, ht, rfl⟩ := List.mem_iff_getElem.mp hc
  obtain ⟨i, hi, rfl⟩ := List.mem_iff_getElem.mp hx
  have e : l.getD t [] = l[t] := by rw [List.getD_eq_getElem?_getD, List.getElem?_eq_getElem ht]; rfl
  refine ⟨t, i, ht, by rw [e]; exact hi, ?_⟩
  rw [e, List.getD_eq_getElem?_getD, List.getElem?_eq_getElem hi]; rfl
theorem lk_uniq0 (l : List (List Nat)) : (l.flatten.map (fun x => x / 2)).Nodup → ∀ {x y t i u j}, lk_at l x t i → lk_at l y u j → x / 2 = y / 2 → t = u ∧ i = j := by
  induction l with
  | nil => intro _ x y t i u j h; exact absurd h.1 (by simp)
  | cons c r ih =>
    intro hn x y t i u j h1 h2 e
    rw [List.flatten_cons, List.map_append, List.nodup_append] at hn
    obtain ⟨n1, n2, n3⟩ := hn
    have inC : ∀ {z a}, lk_at (c :: r) z 0 a → ∃ (ha : a < c.length), z = c[a] := by
      intro z a h
      have h2 := h.2.1
      have h3 := h.2.2
      simp only [List.getD_cons_zero] at h2 h3
      rw [List.getD_eq_getElem?_getD, List.getElem?_eq_getElem h2] at h3
      exact ⟨h2, h3.symm⟩
    have inR : ∀ {z b a}, lk_at (c :: r) z (b + 1) a → lk_at r z b a := by
      intro z b a h
      refine ⟨by have := h.1; simp at this; omega, ?_, ?_⟩
      · have := h.2.1; simpa using this
      · have := h.2.2; simpa using this
    cases t with
    | zero =>
      obtain ⟨hi, ei⟩ := inC h1
      cases u with
      | zero =>
        obtain ⟨hj, ej⟩ := inC h2
        refine ⟨rfl, ?_⟩
        have q1 : (c.map (fun x => x / 2))[i]? = some (x / 2) := by rw [List.getElem?_map, List.getElem?_eq_getElem hi, ei]; rfl
        have q2 : (c.map (fun x => x / 2))[j]? = some (x / 2) := by rw [List.getElem?_map, List.getElem?_eq_getElem hj, e, ej]; rfl
        exact (List.getElem?_inj (by simpa using hi) n1).mp (q1.trans q2.symm)
      | succ u =>
        have m2 := lk_at_mem (inR h2)
        exact absurd rfl (n3 (x / 2) (List.mem_map.mpr ⟨x, by rw [ei]; exact List.getElem_mem hi, rfl⟩) (x / 2) (List.mem_map.mpr ⟨y, m2, e.symm⟩))
    | succ t =>
      have m1 := lk_at_mem (inR h1)
      cases u with
      | zero =>
        obtain ⟨hj, ej⟩ := inC h2
        exact absurd rfl (n3 (y / 2) (List.mem_map.mpr ⟨y, by rw [ej]; exact List.getElem_mem hj, rfl⟩) (y / 2) (List.mem_map.mpr ⟨x, m1, e⟩))
      | succ u =>
        have := ih n2 (inR h1) (inR h2) e
        exact ⟨by omega, this.2⟩
theorem lk_nodup {n : Nat} {l : List (List Nat)} (h : lk_ok n l) : (l.flatten.map (fun x => x / 2)).Nodup := h.1.symm.nodup List.nodup_range
theorem lk_uniq {n : Nat} {l : List (List Nat)} (h : lk_ok n l) {x y t i u j : Nat} (h1 : lk_at l x t i) (h2 : lk_at l y u j) (e : x / 2 = y / 2) : t = u ∧ i = j := lk_uniq0 l (lk_nodup h) h1 h2 e
theorem lk_half_lt {n : Nat} {l : List (List Nat)} (h : lk_ok n l) {x t i : Nat} (h1 : lk_at l x t i) : x / 2 < n := by
  have := h.1.mem_iff.mp (List.mem_map.mpr ⟨x, lk_at_mem h1, rfl⟩)
  simpa using this
theorem lk_there {n : Nat} {l : List (List Nat)} (h : lk_ok n l) {c : Nat} (hc : c < n) : ∃ x t i, lk_at l x t i ∧ x / 2 = c := by
  have := h.1.symm.mem_iff.mp (List.mem_range.mpr hc)
  obtain ⟨x, hx, e⟩ := List.mem_map.mp this
  obtain ⟨t, i, q⟩ := lk_mem_at hx
  exact ⟨x, t, i, q, e⟩
theorem lk_pos_eq {n : Nat} {l : List (List Nat)} (h : lk_ok n l) {x t i : Nat} (h1 : lk_at l x t i) : lk_pos l (x / 2) = 16 * t + 2 * i + x % 2 := by
  have q := Classical.epsilon_spec (p := fun v => ∃ y u j, lk_at l y u j ∧ y / 2 = x / 2 ∧ v = 16 * u + 2 * j + y % 2) ⟨_, x, t, i, h1, rfl, rfl⟩
  obtain ⟨y, u, j, a, b, c⟩ := q
  obtain ⟨e1, e2⟩ := lk_uniq h h1 a b.symm
  subst e1; subst e2
  have e3 : y = x := by rw [← a.2.2, ← h1.2.2]
  rw [e3] at c
  exact c
theorem lk_at_lt {n : Nat} {l : List (List Nat)} (h : lk_ok n l) (hn : n ≤ 6) {x t i : Nat} (h1 : lk_at l x t i) : x < 12 ∧ t < 6 ∧ i < 6 := by
  have := lk_half_lt h h1
  have := lk_width h
  have := h1.1
  have := lk_one l t
  have := lk_len h
  have := h1.2.1
  omega

