set_option maxRecDepth 100000
/-! ===== undo: the last deed is taken off ===== -/
section CP76
variable {g : nd_G} {d : Nat} {K : nd_K} {h : nd_H} {o : Nat → Nat} {nap : Nat} {ds : List Nat} {gi : Nat → Value} {dss : Nat → List Nat} {S : sy_S}
theorem gd_take {α : Type} {l : List α} {n i : Nat} {z : α} (h : i < n) : (l.take n).getD i z = l.getD i z := by
  rw [List.getD_eq_getElem?_getD, List.getElem?_take_of_lt h, ← List.getD_eq_getElem?_getD]
theorem cx_remLast (hg : nd_OK g) (hd : 2 ≤ d) (hK : cw_K o nap ds gi dss S h) {n : Nat} (h1 : ds.length = n + 1) (h10 : ds.length ≤ 10) (hk : ∀ h2 v, h2.length = h.length → (∀ a, a ≠ 90 → o a ≠ 2 → h2[a]? = h[a]?) → cw_K o nap (ds.take n) gi dss (sy_set S (sy_N S, sy_c S, (sy_d S).take n)) h2 → K (.inl (some (.ref v))) h2) : nd_M g mJ2_remove d 0 0 [.ref 90, .int (nI n)] h K := by
  obtain ⟨-, -, ⟨c1, c2, c3, c4, c5⟩, -⟩ := id hK
  have c4 : ds.length = (sy_d S).length := c4
  have tl : (ds.take n).length = n := by rw [List.length_take]; omega
  rcases c3 with ⟨z, -⟩ | ⟨m, ed, gf, e1, e2, e3, e4, e5, e6⟩
  · rw [z] at h1
    cases h1
  refine al_rem hg hd (i := n) e3 e4 (by omega) h10 (fun j hj => ?_) ?_
  · obtain ⟨-, -, fr, bk, fo, mn, ⟨s1, -⟩, -⟩ := c5 j hj
    exact ⟨_, _, e6 j hj, s1⟩
  intro h2 m2 l2 f2 r2 w2
  rw [e6 n (by omega)]
  have k2 : ∀ a, a ≠ 90 → o a ≠ 2 → h2[a]? = h[a]? := fun a z1 z2 => f2 a z1 (fun z => z2 (by rw [z]; exact e1))
  have hz : ds.length - 1 = n := by omega
  rw [hz] at r2 w2
  rw [Nat.sub_self, cpy_0] at w2
  refine hk h2 _ l2 k2 (hK.cut l2 k2 (Or.inr ⟨m2, ed, _, e1, e2, by rw [tl]; exact r2, w2, fun i hi => ?_, fun i hi => ?_⟩) (List.take_sublist n ds) (by rw [tl, List.length_take]; omega) (fun i hi => ⟨i, by omega, gd_take (by omega), gd_take (by omega)⟩))
  · by_cases z : i = n
    · rw [z, va_up_s]; rfl
    · rw [va_up_n _ _ z]; exact e5 i hi
  · rw [va_up_n _ _ (by omega), e6 i (by omega), gd_take (by omega)]
end CP76

