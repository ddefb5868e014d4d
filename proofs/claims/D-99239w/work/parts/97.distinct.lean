set_option maxRecDepth 100000
/-! ===== counting unlike values: sorted row against any list without repeats ===== -/
def su_ds (f : Nat → Int64) : Nat → List Int64
  | 0 => []
  | k + 1 => if k = 0 ∨ f k ≠ f (k - 1) then f k :: su_ds f k else su_ds f k
theorem su_ds_len (f : Nat → Int64) : ∀ m, (su_ds f m).length = su_cnt f m := by
  intro m
  induction m with
  | zero => rfl
  | succ k ih =>
    show (if k = 0 ∨ f k ≠ f (k - 1) then f k :: su_ds f k else su_ds f k).length = su_cnt f k + _
    split
    · simp [ih]
    · simp [ih]
theorem su_ds_mem (f : Nat → Int64) (v : Int64) : ∀ m, v ∈ su_ds f m ↔ ∃ i, i < m ∧ f i = v := by
  intro m
  induction m with
  | zero => simp [su_ds]
  | succ k ih =>
    show v ∈ (if k = 0 ∨ f k ≠ f (k - 1) then f k :: su_ds f k else su_ds f k) ↔ _
    split
    · rw [List.mem_cons, ih]
      constructor
      · rintro (e | ⟨i, h, e⟩)
        · exact ⟨k, by omega, e.symm⟩
        · exact ⟨i, by omega, e⟩
      · rintro ⟨i, h, e⟩
        by_cases z : i = k
        · subst z; exact Or.inl e.symm
        · exact Or.inr ⟨i, by omega, e⟩
    · rename_i hn
      have h0 : k ≠ 0 := fun q => hn (Or.inl q)
      have h1 : f k = f (k - 1) := Decidable.byContradiction (fun q => hn (Or.inr q))
      rw [ih]
      constructor
      · rintro ⟨i, h, e⟩; exact ⟨i, by omega, e⟩
      · rintro ⟨i, h, e⟩
        by_cases z : i = k
        · subst z; exact ⟨i - 1, by omega, by rw [← h1]; exact e⟩
        · exact ⟨i, by omega, e⟩
theorem su_ds_nd {f : Nat → Int64} : ∀ m, so_s 0 m f → (su_ds f m).Nodup := by
  intro m
  induction m with
  | zero => intro _; exact List.nodup_nil
  | succ k ih =>
    intro hs
    have ih := ih (fun i j a b c => hs i j a b (by omega))
    show (if k = 0 ∨ f k ≠ f (k - 1) then f k :: su_ds f k else su_ds f k).Nodup
    split
    · rename_i hn
      rw [List.nodup_cons]
      refine ⟨fun hm => ?_, ih⟩
      obtain ⟨i, hi, e⟩ := (su_ds_mem f (f k) k).mp hm
      rcases hn with q | q
      · omega
      · have h1 := hs i (k - 1) (by omega) (by omega) (by omega)
        have h2 := hs (k - 1) k (by omega) (by omega) (by omega)
        rw [e] at h1
        exact q (Int64.toInt_inj.mp (by omega))
    · exact ih
theorem l_nd_le {α : Type} [DecidableEq α] : ∀ (a b : List α), a.Nodup → (∀ x ∈ a, x ∈ b) → a.length ≤ b.length := by
  intro a
  induction a with
  | nil => intro b _ _; exact Nat.zero_le _
  | cons x a ih =>
    intro b hn hs
    rw [List.nodup_cons] at hn
    have hx := hs x List.mem_cons_self
    have h1 := ih (b.erase x) hn.2 (fun y hy => (List.mem_erase_of_ne (by intro z; subst z; exact hn.1 hy)).mpr (hs y (List.mem_cons_of_mem _ hy)))
    rw [List.length_erase_of_mem hx] at h1
    have h2 := List.length_pos_of_mem hx
    simp only [List.length_cons]
    omega
/-- the sorted row's count is that of any list without repeats of the same values -/
theorem su_cnt_eq {f f2 : Nat → Int64} {m : Nat} {D : List Int64} (hp : so_p 0 m f f2) (hs : so_s 0 m f2) (hD : D.Nodup) (hm : ∀ v, v ∈ D ↔ ∃ i, i < m ∧ f i = v) : su_cnt f2 m = D.length := by
  rw [← su_ds_len]
  refine Nat.le_antisymm (l_nd_le _ _ (su_ds_nd m hs) (fun x hx => ?_)) (l_nd_le _ _ hD (fun x hx => ?_))
  · obtain ⟨i, hi, e⟩ := (su_ds_mem f2 x m).mp hx
    obtain ⟨j, j1, j2, j3⟩ := hp.2.1 i (Nat.zero_le _) hi
    exact (hm x).mpr ⟨j, j2, j3.symm.trans e⟩
  · obtain ⟨i, hi, e⟩ := (hm x).mp hx
    obtain ⟨j, j1, j2, j3⟩ := hp.2.2 i (Nat.zero_le _) hi
    exact (su_ds_mem f2 x m).mpr ⟨j, j2, j3.trans e⟩

