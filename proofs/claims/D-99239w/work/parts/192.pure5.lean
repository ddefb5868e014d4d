/-! ===== plain laws: a table of what was met, by open places ===== -/
def tb_T : Nat := 65536
theorem tb_T_eq : tb_T = 65536 := rfl
def tb_h (x : Int64) : Nat := ((x * 2654435761).toBitVec.toNat / 65536) % 65536
def tb_p (x : Int64) (k : Nat) : Nat := (tb_h x + k) % 65536
def tb_ok (met : Nat → Int64) (mb : Nat → Int32) (turn : Int32) (s : List Int64) : Prop :=
  (∀ j, j < tb_T → mb j = turn → met j ∈ s) ∧ (∀ x ∈ s, ∃ k, k < tb_T ∧ mb (tb_p x k) = turn ∧ met (tb_p x k) = x ∧ ∀ i, i < k → mb (tb_p x i) = turn) ∧ ((List.range tb_T).filter (fun j => decide (mb j = turn))).length = s.length ∧ s.Nodup
theorem tb_p_lt (x : Int64) (k : Nat) : tb_p x k < 65536 := Nat.mod_lt _ (by decide)
theorem tb_free {met : Nat → Int64} {mb : Nat → Int32} {turn : Int32} {s : List Int64} (h : tb_ok met mb turn s) (hl : s.length < tb_T) : ∃ j, j < tb_T ∧ mb j ≠ turn := by
  apply Classical.byContradiction
  intro q
  have q2 : ∀ j ∈ List.range tb_T, decide (mb j = turn) = true := fun j hj => decide_eq_true (Classical.byContradiction fun z => q ⟨j, List.mem_range.mp hj, z⟩)
  have e := h.2.2.1
  rw [List.filter_eq_self.mpr q2, List.length_range] at e
  omega
theorem tb_empty {met : Nat → Int64} {mb : Nat → Int32} {turn : Int32} (h : ∀ j, j < tb_T → mb j ≠ turn) : tb_ok met mb turn [] := by
  refine ⟨fun j hj e => absurd e (h j hj), fun x hx => by simp at hx, ?_, List.nodup_nil⟩
  rw [List.filter_eq_nil_iff.mpr (fun j hj => by simpa using h j (List.mem_range.mp hj))]
  rfl
theorem tb_filter_upd (mb : Nat → Int32) (turn : Int32) (a : Nat) (ha : mb a ≠ turn) : ∀ n, ((List.range n).filter (fun j => decide (upd mb a turn j = turn))).length = ((List.range n).filter (fun j => decide (mb j = turn))).length + (if a < n then 1 else 0) := by
  intro n
  induction n with
  | zero => simp
  | succ n ih =>
    rw [List.range_succ, List.filter_append, List.filter_append, List.length_append, List.length_append, ih]
    by_cases e : n = a
    · subst e
      simp [upd, ha]
    · have e1 : upd mb a turn n = mb n := by simp [upd, e]
      simp only [List.filter_cons, List.filter_nil, e1]
      have e2 : (if a < n then 1 else 0) = (if a < n + 1 then 1 else 0) := by split <;> split <;> omega
      rw [e2]; omega
/-- a look at the place m, all places ahead of it taken by others: it is there, or it is new and goes there -/
theorem tb_hit {met : Nat → Int64} {mb : Nat → Int32} {turn : Int32} {s : List Int64} (h : tb_ok met mb turn s) {x : Int64} {m : Nat} (h1 : mb (tb_p x m) = turn) (h2 : met (tb_p x m) = x) : x ∈ s := h2 ▸ h.1 _ (by rw [tb_T_eq]; exact tb_p_lt x m) h1
theorem tb_miss {met : Nat → Int64} {mb : Nat → Int32} {turn : Int32} {s : List Int64} (h : tb_ok met mb turn s) {x : Int64} {m : Nat} (h1 : mb (tb_p x m) ≠ turn) (h2 : ∀ i, i < m → met (tb_p x i) ≠ x) : x ∉ s := by
  intro hx
  obtain ⟨k, hk, a, b, c⟩ := h.2.1 x hx
  rcases Nat.lt_trichotomy k m with q | q | q
  · exact h2 k q b
  · subst q; exact h1 a
  · exact h1 (c m q)
theorem tb_put {met : Nat → Int64} {mb : Nat → Int32} {turn : Int32} {s : List Int64} (h : tb_ok met mb turn s) {x : Int64} {m : Nat} (hm : m < tb_T) (h1 : mb (tb_p x m) ≠ turn) (h2 : ∀ i, i < m → mb (tb_p x i) = turn) (hx : x ∉ s) : tb_ok (vp_updL met (tb_p x m) x) (upd mb (tb_p x m) turn) turn (x :: s) := by
  have keep : ∀ j, mb j = turn → upd mb (tb_p x m) turn j = turn := fun j e => by
    by_cases q : j = tb_p x m
    · rw [q, upd_s]
    · rw [upd_n q]; exact e
  refine ⟨fun j hj e => ?_, fun y hy => ?_, ?_, List.nodup_cons.mpr ⟨hx, h.2.2.2⟩⟩
  · by_cases q : j = tb_p x m
    · rw [q]; simp [vp_updL]
    · rw [upd_n q] at e
      simp only [vp_updL, q, if_false]
      exact List.mem_cons_of_mem _ (h.1 j hj e)
  · rcases List.mem_cons.mp hy with e | e
    · subst e
      exact ⟨m, hm, by rw [upd_s], by simp [vp_updL], fun i hi => keep _ (h2 i hi)⟩
    · obtain ⟨k, hk, a, b, c⟩ := h.2.1 y e
      have ne : tb_p y k ≠ tb_p x m := fun z => h1 (z ▸ a)
      exact ⟨k, hk, keep _ a, by simp only [vp_updL, ne, if_false]; exact b, fun i hi => keep _ (c i hi)⟩
  · rw [tb_filter_upd mb turn _ h1, h.2.2.1, if_pos (by rw [tb_T_eq]; exact tb_p_lt x m)]
    simp

