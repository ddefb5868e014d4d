set_option maxRecDepth 100000
/-- .. with this napkin, state and deeds -/
abbrev sy_set (S : sy_S) (P : sy_P) : sy_S := (P, S.2)
/-- the state is kept, so that it can be undone -/
abbrev sy_kp (S : sy_S) : sy_P := (sy_N S, sy_c S, sv_keep (sy_d S) (sy_c S))
theorem sv_keep_ok {n : Nat} {ds : List sv} {s : sv} (h10 : ds.length ≤ 10) (hd : ∀ s ∈ ds, sv_ok n s) (hs : sv_ok n s) : (sv_keep ds s).length ≤ 10 ∧ ∀ t ∈ sv_keep ds s, sv_ok n t := by
  unfold sv_keep
  by_cases e : ds.length = 10
  · rw [if_pos e]
    refine ⟨by simp; omega, fun t ht => ?_⟩
    rcases List.mem_append.mp ht with q | q
    · exact hd t (List.mem_of_mem_tail q)
    · rw [List.mem_singleton.mp q]; exact hs
  · rw [if_neg e]
    refine ⟨by simp; omega, fun t ht => ?_⟩
    rcases List.mem_append.mp ht with q | q
    · exact hd t q
    · rw [List.mem_singleton.mp q]; exact hs
theorem sy_set_ok {S : sy_S} {P : sy_P} (hS : sy_ok S) (hP : sp_ok P) : sy_ok (sy_set S P) := ⟨hP, hS.2⟩
theorem sy_kp_ok {S : sy_S} (hS : sy_ok S) : sp_ok (sy_kp S) := by
  have := sv_keep_ok hS.1.2.2.1 hS.1.2.2.2 hS.1.2.1
  exact ⟨hS.1.1, hS.1.2.1, this.1, this.2⟩
section MO27
variable {g : nd_G} {d : Nat} {K : nd_K} {h h0 : nd_H} {A : Nat → Nat → Int32} {F : Nat → Int32} {B : Nat → Nat → Int64} {f : Nat → Int32}
theorem mo_I.kn {tt : Nat} {S : sy_S} {P : sy_P} (h : mo_I tt S A F B) (hk : mo_kn f P) : mo_I tt (sy_set S P) (va_up A 0 f) F B := by
  obtain ⟨h1, h2⟩ := h
  exact ⟨hk, h2⟩
theorem sp_keepsS (hg : nd_OK g) {tt : Nat} {S : sy_S} (hI : mo_I tt S A F B) (hS : sy_ok S) (hw : mo_W h0 A F B h) (hk : ∀ f2 h2, mo_kn f2 (sy_kp S) → mo_I tt (sy_set S (sy_kp S)) (va_up A 0 f2) F B → mo_W h0 (va_up A 0 f2) F B h2 → K (.inl none) h2) : nd_M g mX7_keeps d 0 0 [.ref 101] h K := sp_keeps hg hS.1 hw hI.1 (fun f2 h2 e hw => hk f2 h2 e (hI.kn e) hw)
end MO27

