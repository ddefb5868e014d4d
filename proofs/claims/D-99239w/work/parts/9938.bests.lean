set_option maxRecDepth 100000
/-! ===== the greatest, of like ones the fewest folds, the first: depth first against levels ===== -/
def bs_see (val : lv_E → Option Int64) : Option (Int64 × List Nat) → lv_E → Option (Int64 × List Nat) := fun s x => match val x with
  | none => s
  | some v => match s with
    | none => some (v, x.1)
    | some q => if v < q.1 ∨ (v = q.1 ∧ q.2.length ≤ x.1.length) then some q else some (v, x.1)
def bs_ok (val : lv_E → Option Int64) (xs : List lv_E) (s : Option (Int64 × List Nat)) : Prop := match s with
  | none => ∀ x ∈ xs, val x = none
  | some q => ∃ pre x post, xs = pre ++ x :: post ∧ val x = some q.1 ∧ x.1 = q.2 ∧ (∀ y ∈ xs, ∀ w, val y = some w → w.toInt ≤ q.1.toInt) ∧ (∀ y ∈ xs, val y = some q.1 → q.2.length ≤ y.1.length) ∧ ∀ y ∈ pre, val y = some q.1 → q.2.length < y.1.length
theorem bs_step {val : lv_E → Option Int64} {xs : List lv_E} {s : Option (Int64 × List Nat)} {x : lv_E} (H : bs_ok val xs s) : bs_ok val (xs ++ [x]) (bs_see val s x) := by
  have hmem : ∀ y, y ∈ xs ++ [x] ↔ y ∈ xs ∨ y = x := by intro y; rw [List.mem_append, List.mem_singleton]
  unfold bs_see
  cases hx : val x with
  | none =>
    cases s with
    | none =>
      intro y hy
      rcases (hmem y).mp hy with z | z
      · exact H y z
      · rw [z]; exact hx
    | some q =>
      obtain ⟨pre, z, post, a1, a2, a3, a4, a5, a6⟩ := H
      refine ⟨pre, z, post ++ [x], by rw [a1]; simp, a2, a3, fun y hy w hw => ?_, fun y hy hw => ?_, a6⟩
      · rcases (hmem y).mp hy with e | e
        · exact a4 y e w hw
        · rw [e, hx] at hw; cases hw
      · rcases (hmem y).mp hy with e | e
        · exact a5 y e hw
        · rw [e, hx] at hw; cases hw
  | some v =>
    cases s with
    | none =>
      refine ⟨xs, x, [], rfl, hx, rfl, fun y hy w hw => ?_, fun y hy hw => ?_, fun y hy hw => ?_⟩
      · rcases (hmem y).mp hy with e | e
        · rw [H y e] at hw; cases hw
        · rw [e, hx] at hw; cases hw; exact Int.le_refl _
      · rcases (hmem y).mp hy with e | e
        · rw [H y e] at hw; cases hw
        · rw [e]; exact Nat.le_refl _
      · rw [H y hy] at hw; cases hw
    | some q =>
      obtain ⟨pre, z, post, a1, a2, a3, a4, a5, a6⟩ := H
      show bs_ok val (xs ++ [x]) (if v < q.1 ∨ (v = q.1 ∧ q.2.length ≤ x.1.length) then some q else some (v, x.1))
      by_cases hc : v < q.1 ∨ (v = q.1 ∧ q.2.length ≤ x.1.length)
      · rw [if_pos hc]
        refine ⟨pre, z, post ++ [x], by rw [a1]; simp, a2, a3, fun y hy w hw => ?_, fun y hy hw => ?_, a6⟩
        · rcases (hmem y).mp hy with e | e
          · exact a4 y e w hw
          · rw [e, hx] at hw
            cases hw
            rcases hc with c | c
            · rw [Int64.lt_iff_toInt_lt] at c; omega
            · rw [c.1]; exact Int.le_refl _
        · rcases (hmem y).mp hy with e | e
          · exact a5 y e hw
          · rw [e, hx] at hw
            have hw := Option.some.inj hw
            rw [e]
            rcases hc with c | c
            · rw [hw, Int64.lt_iff_toInt_lt] at c; omega
            · exact c.2
      · rw [if_neg hc]
        have h1 : q.1.toInt ≤ v.toInt := by
          have : ¬ v < q.1 := fun c => hc (Or.inl c)
          rw [Int64.lt_iff_toInt_lt] at this
          omega
        have h2 : v = q.1 → x.1.length < q.2.length := fun e => Nat.lt_of_not_le (fun c => hc (Or.inr ⟨e, c⟩))
        refine ⟨xs, x, [], rfl, hx, rfl, fun y hy w hw => ?_, fun y hy hw => ?_, fun y hy hw => ?_⟩
        · rcases (hmem y).mp hy with e | e
          · have := a4 y e w hw
            show w.toInt ≤ v.toInt
            omega
          · rw [e, hx] at hw; cases hw; exact Int.le_refl _
        · rcases (hmem y).mp hy with e | e
          · have h3 := a4 y e v hw
            have h4 : v = q.1 := Int64.toInt_inj.mp (by omega)
            have h5 := a5 y e (by rw [hw, h4])
            have h6 := h2 h4
            show x.1.length ≤ y.1.length
            omega
          · rw [e]; exact Nat.le_refl _
        · have h3 := a4 y hy v hw
          have h4 : v = q.1 := Int64.toInt_inj.mp (by omega)
          have h5 := a5 y hy (by rw [hw, h4])
          have h6 := h2 h4
          show x.1.length < y.1.length
          omega
theorem bs_fold {val : lv_E → Option Int64} : ∀ (ys xs : List lv_E) (s : Option (Int64 × List Nat)), bs_ok val xs s → bs_ok val (xs ++ ys) (ys.foldl (bs_see val) s) := by
  intro ys
  induction ys with
  | nil => intro xs s H; rw [List.append_nil]; exact H
  | cons y ys ih =>
    intro xs s H
    have M := ih (xs ++ [y]) _ (bs_step (x := y) H)
    rw [List.append_assoc] at M
    exact M
theorem bs_all (val : lv_E → Option Int64) (xs : List lv_E) : bs_ok val xs (xs.foldl (bs_see val) none) := bs_fold xs [] none (fun x h => by cases h)
theorem lv_split {m : Nat} {l : List (List Nat)} {pre post : List lv_E} {x : lv_E} {P : lv_E → Prop} (h : df m [] l = pre ++ x :: post) (h1 : ∀ y ∈ df m [] l, P y → x.1.length ≤ y.1.length) (h2 : ∀ y ∈ pre, P y → x.1.length < y.1.length) : ∃ A B, lv_all m l = A ++ x :: B ∧ ∀ y ∈ A, ¬ P y := by
  have hx : x ∈ df m [] l := by rw [h]; simp
  have hk : x.1.length ≤ m := by
    have := (df_len m [] l x hx).2
    simpa using this
  generalize hk9 : x.1.length = k at *
  have hlev := df_lev0 (l := l) hk
  rw [h, List.filter_append, List.filter_cons_of_pos (by rw [hk9]; exact decide_eq_true rfl)] at hlev
  have hr : List.range (m + 1) = List.range k ++ (k :: List.range' (k + 1) (m - k)) := by
    rw [List.range_eq_range', List.range_eq_range', show m + 1 = k + (m - k + 1) by omega, ← List.range'_append_1, Nat.zero_add, List.range'_succ]
  refine ⟨(List.range k).flatMap (fun n => lv_lev n l) ++ pre.filter (fun e => decide (e.1.length = k)), post.filter (fun e => decide (e.1.length = k)) ++ (List.range' (k + 1) (m - k)).flatMap (fun n => lv_lev n l), ?_, fun y hy hP => ?_⟩
  · unfold lv_all
    rw [hr, List.flatMap_append, List.flatMap_cons, ← hlev]
    simp
  · rcases List.mem_append.mp hy with z | z
    · obtain ⟨j, hj, hy2⟩ := List.mem_flatMap.mp z
      have hj := List.mem_range.mp hj
      rw [← df_lev0 (m := m) (l := l) (by omega)] at hy2
      obtain ⟨q1, q2⟩ := List.mem_filter.mp hy2
      have q2 := of_decide_eq_true q2
      have := h1 y q1 hP
      omega
    · obtain ⟨q1, q2⟩ := List.mem_filter.mp z
      have q2 := of_decide_eq_true q2
      have := h2 y q1 hP
      omega
theorem fd_none {cond : lv_E → Bool} : ∀ xs : List lv_E, (∀ y ∈ xs, cond y = false) → lv_go (se_fd cond) none xs = (none, false) := by
  intro xs
  induction xs with
  | nil => intro _; rfl
  | cons x xs ih =>
    intro h
    have hx := h x (List.mem_cons_self ..)
    have e : se_fd cond none x = (none, false) := by unfold se_fd; rw [if_neg (by rw [hx]; decide)]
    show (if (se_fd cond none x).2 = true then se_fd cond none x else lv_go (se_fd cond) (se_fd cond none x).1 xs) = _
    rw [e, if_neg (by decide)]
    exact ih (fun y hy => h y (List.mem_cons_of_mem _ hy))
def fw_val (cond : lv_E → Bool) : lv_E → Option Int64 := fun x => if cond x = true then some (lN 1) else none
/-- the first row that is so -/
theorem fd_eq (cond : lv_E → Bool) (m : Nat) (l : List (List Nat)) : (df m [] l).foldl (bs_see (fw_val cond)) none = (fd_r cond (lv_all m l)).map (fun r => (lN 1, r)) := by
  have H := bs_all (fw_val cond) (df m [] l)
  cases e : (df m [] l).foldl (bs_see (fw_val cond)) none with
  | none =>
    rw [e] at H
    have hn : ∀ y ∈ lv_all m l, cond y = false := by
      intro y hy
      have h1 := H y ((df_perm m l).mem_iff.mpr hy)
      unfold fw_val at h1
      cases hc : cond y with
      | false => rfl
      | true => rw [if_pos hc] at h1; cases h1
    unfold fd_r
    rw [fd_none _ hn]
    rfl
  | some q =>
    rw [e] at H
    obtain ⟨pre, x, post, a1, a2, a3, a4, a5, a6⟩ := H
    have hcx : cond x = true ∧ q.1 = lN 1 := by
      unfold fw_val at a2
      by_cases hc : cond x = true
      · rw [if_pos hc] at a2; exact ⟨hc, (Option.some.inj a2).symm⟩
      · rw [if_neg hc] at a2; cases a2
    have hv : ∀ y, cond y = true → fw_val cond y = some q.1 := fun y hy => by unfold fw_val; rw [if_pos hy, hcx.2]
    rw [← a3] at a5 a6
    obtain ⟨A, B, b1, b2⟩ := lv_split (P := fun y => cond y = true) a1 (fun y hy hP => a5 y hy (hv y hP)) (fun y hy hP => a6 y hy (hv y hP))
    have hA : ∀ y ∈ A, cond y = false := fun y hy => by
      cases hc : cond y with
      | false => rfl
      | true => exact absurd hc (b2 y hy)
    unfold fd_r
    rw [b1, lv_go_app, fd_none A hA, if_neg (by decide)]
    have ex : se_fd cond none x = (some x.1, true) := by unfold se_fd; rw [if_pos hcx.1]
    show some q = Option.map _ (if (se_fd cond none x).2 = true then se_fd cond none x else lv_go (se_fd cond) (se_fd cond none x).1 B).1
    rw [ex, if_pos rfl, a3, ← hcx.2]
    rfl
theorem bt_lt {val : lv_E → Int32} {u : Int32} : ∀ (xs : List lv_E) (s : Int32 × List Nat), s.1.toInt < u.toInt → (∀ y ∈ xs, (val y).toInt < u.toInt) → (lv_go (se_bt val) s xs).1.1.toInt < u.toInt ∧ (lv_go (se_bt val) s xs).2 = false := by
  intro xs
  induction xs with
  | nil => intro s h _; exact ⟨h, rfl⟩
  | cons x xs ih =>
    intro s h hy
    show (lv_go (se_bt val) (se_bt val s x).1 xs).1.1.toInt < u.toInt ∧ (lv_go (se_bt val) (se_bt val s x).1 xs).2 = false
    refine ih _ ?_ (fun y q => hy y (List.mem_cons_of_mem _ q))
    unfold se_bt
    show (if s.1 < val x then (val x, x.1) else s).1.toInt < u.toInt
    split
    · exact hy x (List.mem_cons_self ..)
    · exact h
theorem bt_keep {val : lv_E → Int32} : ∀ (xs : List lv_E) (s : Int32 × List Nat), (∀ y ∈ xs, (val y).toInt ≤ s.1.toInt) → (lv_go (se_bt val) s xs).1 = s := by
  intro xs
  induction xs with
  | nil => intro s _; rfl
  | cons x xs ih =>
    intro s h
    show (lv_go (se_bt val) (se_bt val s x).1 xs).1 = s
    have e : (se_bt val s x).1 = s := by
      unfold se_bt
      show (if s.1 < val x then (val x, x.1) else s) = s
      rw [if_neg (by rw [Int32.lt_iff_toInt_lt]; have := h x (List.mem_cons_self ..); omega)]
    rw [e]
    exact ih s (fun y q => h y (List.mem_cons_of_mem _ q))
theorem i32_64 {a b : Int32} (e : a.toInt64 = b.toInt64) : a = b := by
  have := congrArg Int64.toInt e
  rw [nd_tl, nd_tl] at this
  exact Int32.toInt_inj.mp this
theorem df_ne (m : Nat) (l : List (List Nat)) : ∃ x, x ∈ df m [] l := by
  cases m with
  | zero => exact ⟨([], l), by simp [df]⟩
  | succ m => exact ⟨([], l), by rw [df_s]; exact List.mem_cons_self ..⟩
/-- the greatest -/
theorem bt_eq {val : lv_E → Int32} {m : Nat} {l : List (List Nat)} (hv : ∀ x ∈ lv_all m l, -536870912 < (val x).toInt) : (df m [] l).foldl (bs_see (fun x => some (val x).toInt64)) none = some ((bt_r val (lv_all m l)).1.toInt64, (bt_r val (lv_all m l)).2) := by
  have H := bs_all (fun x => some (val x).toInt64) (df m [] l)
  cases e : (df m [] l).foldl (bs_see (fun x => some (val x).toInt64)) none with
  | none =>
    rw [e] at H
    obtain ⟨x, hx⟩ := df_ne m l
    have := H x hx
    cases this
  | some q =>
    rw [e] at H
    obtain ⟨pre, x, post, a1, a2, a3, a4, a5, a6⟩ := H
    have hq : (val x).toInt64 = q.1 := Option.some.inj a2
    rw [← a3] at a5 a6
    obtain ⟨A, B, b1, b2⟩ := lv_split (P := fun y => val y = val x) a1 (fun y hy hP => a5 y hy (by show some (val y).toInt64 = some q.1; rw [hP, hq])) (fun y hy hP => a6 y hy (by show some (val y).toInt64 = some q.1; rw [hP, hq]))
    have hle : ∀ y ∈ lv_all m l, (val y).toInt ≤ (val x).toInt := by
      intro y hy
      have h1 := a4 y ((df_perm m l).mem_iff.mpr hy) _ rfl
      rw [← hq, nd_tl, nd_tl] at h1
      exact h1
    have hA : ∀ y ∈ A, (val y).toInt < (val x).toInt := by
      intro y hy
      have h1 := hle y (by rw [b1]; exact List.mem_append_left _ hy)
      have h2 : (val y).toInt ≠ (val x).toInt := fun z => b2 y hy (Int32.toInt_inj.mp z)
      omega
    have hx := hv x (by rw [b1]; simp)
    obtain ⟨c1, c2⟩ := bt_lt (u := val x) A (-536870912, []) hx hA
    have ex : ∀ s : Int32 × List Nat, s.1.toInt < (val x).toInt → (lv_go (se_bt val) s (x :: B)).1 = (val x, x.1) := by
      intro s hs
      show (lv_go (se_bt val) (se_bt val s x).1 B).1 = _
      have e1 : (se_bt val s x).1 = (val x, x.1) := by
        unfold se_bt
        show (if s.1 < val x then (val x, x.1) else s) = _
        rw [if_pos (by rw [Int32.lt_iff_toInt_lt]; exact hs)]
      rw [e1]
      exact bt_keep B _ (fun y hy => hle y (by rw [b1]; exact List.mem_append_right _ (List.mem_cons_of_mem _ hy)))
    unfold bt_r
    rw [b1, lv_go_app, c2, if_neg (by decide), ex _ c1, hq, a3]

