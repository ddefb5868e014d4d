set_option maxRecDepth 100000
/-! ===== depth first against levels ===== -/
theorem df_len : ∀ (m : Nat) (r : List Nat) (l : List (List Nat)) (e : lv_E), e ∈ df m r l → r.length ≤ e.1.length ∧ e.1.length ≤ r.length + m := by
  intro m
  induction m with
  | zero => intro r l e h; simp only [df, List.mem_singleton] at h; subst h; exact ⟨Nat.le_refl _, Nat.le_refl _⟩
  | succ m ih =>
    intro r l e h
    simp only [df, List.mem_cons, List.mem_flatMap] at h
    rcases h with rfl | ⟨c, -, h⟩
    · exact ⟨Nat.le_refl _, Nat.le_add_right _ _⟩
    · have q := ih _ _ _ h
      simp only [List.length_append, List.length_singleton] at q
      omega
theorem fl_none {α : Type} {p : α → Bool} {xs : List α} (h : ∀ x ∈ xs, p x = false) : xs.filter p = [] := by
  rw [List.filter_eq_nil_iff]
  intro x hx
  rw [h x hx]
  decide
/-- the rows of k folds, in the order in which they are met, are the level k -/
theorem df_lev : ∀ (m : Nat) (r : List Nat) (l : List (List Nat)) (k : Nat), k ≤ m → (df m r l).filter (fun e => decide (e.1.length = r.length + k)) = (lv_lev k l).map (fun q => (r ++ q.1, q.2)) := by
  intro m
  induction m with
  | zero =>
    intro r l k hk
    obtain rfl : k = 0 := by omega
    simp [df, lv_lev]
  | succ m ih =>
    intro r l k hk
    cases k with
    | zero =>
      simp only [df]
      rw [List.filter_cons_of_pos (by simp), fl_none]
      · simp [lv_lev]
      · intro e he
        obtain ⟨c, -, he⟩ := List.mem_flatMap.mp he
        have q := df_len _ _ _ _ he
        simp only [List.length_append, List.length_singleton] at q
        exact decide_eq_false (by omega)
    | succ k =>
      simp only [df]
      rw [List.filter_cons_of_neg (by simp), List.filter_flatMap]
      simp only [lv_lev]
      rw [List.map_flatMap]
      congr 1
      funext c
      have e := ih (r ++ [c]) (lk_fold l (c / 10) (c % 10)) k (by omega)
      simp only [List.length_append, List.length_singleton] at e
      rw [show r.length + (k + 1) = r.length + 1 + k by omega, e, List.map_map]
      congr 1
      funext q
      simp
theorem df_lev0 {m : Nat} {l : List (List Nat)} {k : Nat} (hk : k ≤ m) : (df m [] l).filter (fun e => decide (e.1.length = k)) = lv_lev k l := by
  have e := df_lev m [] l k hk
  simpa using e
theorem fm_app {α β : Type} (a b : α → List β) (ys : List α) : (ys.flatMap (fun y => a y ++ b y)).Perm (ys.flatMap a ++ ys.flatMap b) := by
  induction ys with
  | nil => exact List.Perm.refl _
  | cons y ys ih =>
    simp only [List.flatMap_cons]
    have h1 : (b y ++ (ys.flatMap a ++ ys.flatMap b)).Perm (ys.flatMap a ++ (b y ++ ys.flatMap b)) := by
      rw [← List.append_assoc, ← List.append_assoc]
      exact List.Perm.append_right _ List.perm_append_comm
    have h2 := (List.Perm.append_left (b y) ih).trans h1
    have h3 := List.Perm.append_left (a y) h2
    simpa [List.append_assoc] using h3
/-- a list is, but for order, its parts by a number below M -/
theorem pt_perm {α : Type} (f : α → Nat) (M : Nat) : ∀ xs : List α, (∀ x ∈ xs, f x < M) → xs.Perm ((List.range M).flatMap (fun k => xs.filter (fun x => decide (f x = k)))) := by
  intro xs
  induction xs with
  | nil => intro _; simp
  | cons x xs ih =>
    intro h
    have h1 := ih (fun y hy => h y (List.mem_cons_of_mem _ hy))
    have hx := h x List.mem_cons_self
    have e : (fun k => (x :: xs).filter (fun y => decide (f y = k))) = (fun k => (if f x = k then [x] else []) ++ xs.filter (fun y => decide (f y = k))) := by
      funext k
      by_cases hk : f x = k
      · simp [List.filter_cons, hk]
      · simp [List.filter_cons, hk]
    rw [e]
    refine List.Perm.trans ?_ (fm_app _ _ _).symm
    have e2 : (List.range M).flatMap (fun k => if f x = k then [x] else []) = [x] := by
      clear h1 ih e h
      induction M with
      | zero => exact absurd hx (Nat.not_lt_zero _)
      | succ M ihM =>
        rw [List.range_succ, List.flatMap_append]
        by_cases hM : f x = M
        · rw [show (List.range M).flatMap (fun k => if f x = k then [x] else []) = [] from ?_]
          · simp [hM]
          · rw [List.flatMap_eq_nil_iff]
            intro k hk
            have := List.mem_range.mp hk
            rw [if_neg (by omega)]
        · rw [ihM (by omega)]
          simp [hM]
    rw [e2]
    exact List.Perm.cons x h1
theorem df_perm (m : Nat) (l : List (List Nat)) : (df m [] l).Perm (lv_all m l) := by
  have h := pt_perm (fun e : lv_E => e.1.length) (m + 1) (df m [] l) (fun e he => by
    have := df_len m [] l e he
    simp at this
    omega)
  have e : (List.range (m + 1)).flatMap (fun k => (df m [] l).filter (fun x => decide (x.1.length = k))) = lv_all m l := by
    unfold lv_all
    rw [List.flatMap_def, List.flatMap_def]
    congr 1
    refine List.map_congr_left (fun k hk => ?_)
    have := List.mem_range.mp hk
    exact df_lev0 (by omega)
  rw [e] at h
  exact h
theorem df_length (m : Nat) (l : List (List Nat)) : (df m [] l).length = lv_cntA m l.length := (df_perm m l).length_eq.trans (lv_all_length m l)

