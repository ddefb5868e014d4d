set_option maxRecDepth 100000
section SO99
variable {g : nd_G} {d : Nat} {K : nd_K} {h : nd_H} {A n : Nat} {f : Nat → Int64}
/-- all before p is at most v .. -/
theorem so_p.le {lo hi : Nat} {f f2 : Nat → Int64} {v : Int} (a : so_p lo hi f f2) (h : ∀ i, lo ≤ i → i < hi → (f i).toInt ≤ v) : ∀ i, lo ≤ i → i < hi → (f2 i).toInt ≤ v := by
  intro i h1 h2
  obtain ⟨j, q1, q2, q3⟩ := a.2.1 i h1 h2
  rw [q3]; exact h j q1 q2
theorem so_p.ge {lo hi : Nat} {f f2 : Nat → Int64} {v : Int} (a : so_p lo hi f f2) (h : ∀ i, lo ≤ i → i < hi → v ≤ (f i).toInt) : ∀ i, lo ≤ i → i < hi → v ≤ (f2 i).toInt := by
  intro i h1 h2
  obtain ⟨j, q1, q2, q3⟩ := a.2.1 i h1 h2
  rw [q3]; exact h j q1 q2
/-- sorted parts with all of the left at most all of the right -/
theorem so_s.join {lo mid hi : Nat} {f : Nat → Int64} {v : Int} (a : so_s lo mid f) (b : so_s mid hi f) (h1 : ∀ i, lo ≤ i → i < mid → (f i).toInt ≤ v) (h2 : ∀ i, mid ≤ i → i < hi → v ≤ (f i).toInt) : so_s lo hi f := by
  intro i j q1 q2 q3
  by_cases e1 : j < mid
  · exact a i j q1 q2 e1
  · by_cases e2 : mid ≤ i
    · exact b i j e2 q2 q3
    · have := h1 i q1 (by omega)
      have := h2 j (by omega) q3
      omega
end SO99

