set_option maxRecDepth 100000
/-! ===== deeds ===== -/
/-- why a deed cannot be done (0: it can) -/
def dd_why (P : sy_P) (z : Int) : Nat :=
  if z = -1 then 0 else if 0 ≤ z ∧ z ≤ 99 then (if 1 ≤ z / 10 ∧ z / 10 < (lk_run (lk_flat (nk_n P.1)) P.2.1.1).length ∧ z % 10 ≤ 3 then 0 else 1)
  else if z = 100 ∨ z = 200 then (if P.2.1.1.length = 0 then 2 else 0)
  else if (1000 ≤ z ∧ z ≤ 1599) ∨ (2000 ≤ z ∧ z ≤ 2599) then (if z % 1000 / 100 < nk_n P.1 then 0 else 1) else 1
/-- a deed, done -/
def dd_do (s : sv) (z : Int) : sv :=
  if z = -1 then s else if z < 100 then (s.1 ++ [z.toNat], s.2.1, s.2.2) else if z = 100 then (s.1.dropLast, s.2.1, s.2.2) else if z = 200 then ([], s.2.1, s.2.2)
  else if z < 2000 then (s.1, s.2.1.set (z.toNat % 1000 / 100) (z.toNat % 100), s.2.2) else (s.1, s.2.1, s.2.2.set (z.toNat % 1000 / 100) (z.toNat % 100))
theorem sv_set_lt {xs : List Nat} {i v : Nat} (h : ∀ c, xs.getD c 0 < 100) (hv : v < 100) : ∀ c, (xs.set i v).getD c 0 < 100 := by
  intro c
  rw [List.getD_eq_getElem?_getD, List.getElem?_set]
  by_cases e : i = c
  · rw [if_pos e]
    by_cases q : i < xs.length
    · rw [if_pos q]; exact hv
    · rw [if_neg q]; decide
  · rw [if_neg e, ← List.getD_eq_getElem?_getD]; exact h c
theorem dd_ok {P : sy_P} {z : Int} (hP : sp_ok P) (h : dd_why P z = 0) : sv_ok (nk_n P.1) (dd_do P.2.1 z) := by
  obtain ⟨v1, v2, v3, v4, v5⟩ := hP.2.1
  unfold dd_why at h
  unfold dd_do
  by_cases c1 : z = -1
  · rw [if_pos c1]; exact ⟨v1, v2, v3, v4, v5⟩
  rw [if_neg c1] at h ⊢
  by_cases c2 : 0 ≤ z ∧ z ≤ 99
  · rw [if_pos c2] at h
    by_cases c3 : 1 ≤ z / 10 ∧ z / 10 < (lk_run (lk_flat (nk_n P.1)) P.2.1.1).length ∧ z % 10 ≤ 3
    · rw [if_pos (by omega)]
      exact ⟨(lk_val_app _ _ _).mpr ⟨v1, ⟨by omega, by omega, by omega⟩, trivial⟩, v2, v3, v4, v5⟩
    · rw [if_neg c3] at h; exact absurd h (by decide)
  rw [if_neg c2] at h
  by_cases c3 : z = 100 ∨ z = 200
  · rw [if_neg (by omega)]
    by_cases c4 : z = 100
    · rw [if_pos c4]
      refine ⟨?_, v2, v3, v4, v5⟩
      rcases List.eq_nil_or_concat P.2.1.1 with q | ⟨a, b, q⟩
      · rw [q]; trivial
      · rw [q] at v1 ⊢
        rw [List.concat_eq_append] at v1 ⊢
        rw [List.dropLast_concat]
        exact ((lk_val_app _ _ _).mp v1).1
    · rw [if_neg c4, if_pos (by omega)]
      exact ⟨trivial, v2, v3, v4, v5⟩
  rw [if_neg c3] at h
  by_cases c4 : (1000 ≤ z ∧ z ≤ 1599) ∨ (2000 ≤ z ∧ z ≤ 2599)
  · rw [if_neg (by omega), if_neg (by omega), if_neg (by omega)]
    by_cases c5 : z < 2000
    · rw [if_pos c5]
      exact ⟨v1, by rw [List.length_set]; exact v2, v3, sv_set_lt v4 (by omega), v5⟩
    · rw [if_neg c5]
      exact ⟨v1, v2, by rw [List.length_set]; exact v3, v4, sv_set_lt v5 (by omega)⟩
  · rw [if_neg c4] at h; exact absurd h (by decide)

