set_option maxRecDepth 100000
/-! ===== what a heap's new cells cost, exactly ===== -/
def so_z (c : nd_C) : Nat := match c with
  | .inl x => x.2.1
  | .inr _ => 0
def so_ext (h hx : nd_H) : Prop := h.length ≤ hx.length ∧ ∀ a, a < h.length → hx[a]? = h[a]?
/-- hx goes on h by at most c arrays of s slots in all -/
def so_e (h hx : nd_H) (c s : Nat) : Prop := so_ext h hx ∧ hx.length ≤ h.length + c ∧ ((hx.map so_z).drop h.length).sum ≤ s ∧ ∀ i k, h.length ≤ i → hx[i]? = some k → ∃ x, k = .inl x
theorem so_e.rfl {h : nd_H} : so_e h h 0 0 := ⟨⟨Nat.le_refl _, fun _ _ => Eq.refl _⟩, Nat.le_refl _, by rw [List.drop_of_length_le (by rw [List.length_map]; exact Nat.le_refl _)]; exact Nat.le_refl _, fun i k h1 h2 => by have := (List.getElem?_eq_some_iff.mp h2).1; omega⟩
theorem so_e.mono {h hx : nd_H} {c s c2 s2 : Nat} (a : so_e h hx c s) (h1 : c ≤ c2) (h2 : s ≤ s2) : so_e h hx c2 s2 := ⟨a.1, Nat.le_trans a.2.1 (by omega), Nat.le_trans a.2.2.1 h2, a.2.2.2⟩
theorem so_e.le {h hx : nd_H} {c s : Nat} (a : so_e h hx c s) : h.length ≤ hx.length := a.1.1
theorem so_e.app {h hx : nd_H} {c s ty N : Nat} {y : nd_A} (a : so_e h hx c s) : so_e h (hx ++ [.inl (ty, N, y)]) (c + 1) (s + N) := by
  obtain ⟨⟨a1, a2⟩, a3, a4, a5⟩ := a
  refine ⟨⟨by rw [List.length_append]; omega, fun x hx2 => (List.getElem?_append_left (by omega)).trans (a2 x hx2)⟩, by rw [List.length_append]; show hx.length + 1 ≤ _; omega, ?_, fun i k h1 h2 => ?_⟩
  · rw [List.map_append, List.drop_append_of_le_length (by rw [List.length_map]; exact a1), List.sum_append]
    show _ + N ≤ s + N
    omega
  · by_cases z : i < hx.length
    · rw [List.getElem?_append_left z] at h2; exact a5 i k h1 h2
    · rw [List.getElem?_append_right (by omega)] at h2
      have z2 := (List.getElem?_eq_some_iff.mp h2).1
      simp only [List.length_singleton] at z2
      rw [show i - hx.length = 0 by omega] at h2
      exact ⟨_, (Option.some.inj h2).symm⟩
theorem so_zmap {hx : nd_H} {R : Nat} {c c2 : nd_C} (h1 : hx[R]? = some c) (h2 : so_z c2 = so_z c) : (hx.set R c2).map so_z = hx.map so_z := by
  apply List.ext_getElem?
  intro i
  rw [List.getElem?_map, List.getElem?_map]
  by_cases e : i = R
  · subst e
    rw [List.getElem?_set_self (List.getElem?_eq_some_iff.mp h1).1, h1]
    show some (so_z c2) = some (so_z c)
    rw [h2]
  · rw [List.getElem?_set_ne (Ne.symm e)]
theorem so_e.set {h hx : nd_H} {c s R ty ty2 N : Nat} {x y : nd_A} (a : so_e h hx c s) (hR : h.length ≤ R) (hb : hx[R]? = some (.inl (ty, N, x))) : so_e h (hx.set R (.inl (ty2, N, y))) c s := by
  obtain ⟨⟨a1, a2⟩, a3, a4, a5⟩ := a
  refine ⟨⟨by rw [List.length_set]; exact a1, fun x hx2 => (List.getElem?_set_ne (by omega)).trans (a2 x hx2)⟩, by rw [List.length_set]; exact a3, by rw [so_zmap (c2 := .inl (ty2, N, y)) hb (Eq.refl N)]; exact a4, fun i k h1 h2 => ?_⟩
  by_cases e : i = R
  · subst e
    rw [List.getElem?_set_self (List.getElem?_eq_some_iff.mp hb).1] at h2
    exact ⟨_, (Option.some.inj h2).symm⟩
  · rw [List.getElem?_set_ne (Ne.symm e)] at h2
    exact a5 i k h1 h2
theorem so_e.trans {h hx hy : nd_H} {c s c2 s2 : Nat} (a : so_e h hx c s) (b : so_e hx hy c2 s2) : so_e h hy (c + c2) (s + s2) := by
  obtain ⟨⟨a1, a2⟩, a3, a4, a5⟩ := a
  obtain ⟨⟨b1, b2⟩, b3, b4, b5⟩ := b
  have e : hy.map so_z = hx.map so_z ++ (hy.map so_z).drop hx.length := by
    have e2 : (hy.map so_z).take hx.length = hx.map so_z := by
      apply List.ext_getElem?
      intro i
      by_cases z : i < hx.length
      · rw [List.getElem?_take_of_lt z, List.getElem?_map, List.getElem?_map, b2 i z]
      · rw [List.getElem?_eq_none (by rw [List.length_take]; omega), List.getElem?_eq_none (by rw [List.length_map]; omega)]
    rw [← e2, List.take_append_drop]
  refine ⟨⟨Nat.le_trans a1 b1, fun x h2 => (b2 x (by omega)).trans (a2 x h2)⟩, by omega, ?_, fun i k h1 h2 => ?_⟩
  · rw [e, List.drop_append_of_le_length (by rw [List.length_map]; exact a1), List.sum_append]
    omega
  · by_cases z : i < hx.length
    · rw [b2 i z] at h2; exact a5 i k h1 h2
    · exact b5 i k (by omega) h2
section TI
variable {g : nd_G} {mm : nd_Mt} {d mc ms : Nat} {K : nd_K} {X : nd_X} {pc : Nat} {lv : List (Option Value)} {st : List Value} {h : nd_H} {cs ss : Nat}
theorem nd_enterL {args : List Value} (hg : nd_OK g) (hy : plainName mm.1.cls = true) (hh : mm.2.2.2.2 = none) (hn : (nd_sl args).length ≤ mm.2.2.1) (body : ∀ X : nd_X, nd_Cx g mm X → X.2.2.1.heap.size = nd_z g + h.length → nd_W g mm d mc ms K X 0 (nd_lv0 args mm.2.2.1) [] h 0 0) : nd_M g mm d mc ms args h K := by
  obtain ⟨y, cc, maxL, ret, hdl⟩ := mm
  dsimp only at hh hy hn
  subst hh
  refine vx_ofW (cc := cc) (maxL := maxL) (ret := ret) (ws' := lw_all) hy rfl ?_
  intro p e s m args9 below meth c s₁ B hml htab hv
  obtain ⟨rfl, hR, hA⟩ := hv
  have hts := atoms_spec (ws := ws_ y cc maxL ret) B.pre
  have hts : ∀ w ∈ lw_all, w.before _ s = true := fun w h => hts w (List.mem_cons_of_mem _ h)
  have k := body (p, e, s, m, (args.map (nd_v g)).toArray, below, meth, c) ⟨B.exec, B.bytes, B.returns, hml, findClass_of_methodNamed B.named, hts, B.notSynchronized, hA, hg, by show nd_z g ≤ s.heap.size; rw [hR.1]; omega, (name_of_methodNamed B.named B.method).1, htab⟩ hR.1
  rw [lg_entry_eq]
  exact k s.heap _ [] (nd_L.entry hg hn) hR va_S.rf
theorem nd_pa_size {ty n : Nat} {a : nd_A} : (nd_pa g ty n a).slots.size = n := by
  rcases a with f | f | f
  · exact arrV_size _ _ _
  · exact arrV_size _ _ _
  · exact arrV_size _ _ _
/-- counters may be set back to what the heap shows -/
theorem nd_tight {h0 : nd_H} {cs2 ss2 : Nat} (hX : X.2.2.1.heap.size = nd_z g + h0.length) (he : h0.length ≤ h.length) (h1 : h.length ≤ h0.length + cs2) (h2 : ((h.map so_z).drop h0.length).sum ≤ ss2) (ha : ∀ i k, h0.length ≤ i → h[i]? = some k → ∃ x, k = .inl x) (k : nd_W g mm d mc ms K X pc lv st h cs2 ss2) : nd_W g mm d mc ms K X pc lv st h cs ss := by
  intro H ls locs hl hR hS T hT Xs
  obtain ⟨e1, e2, e3, e4, e5, e6⟩ := Xs.same
  have hH : (T.setVm X.2.2.1.vm).heap = H := hT
  have hs : ((H.toList.drop X.2.2.1.heap.size).map (fun c => c.slots.size)) = (h.map so_z).drop h0.length := by
    apply List.ext_getElem?
    intro i
    rw [List.getElem?_map, List.getElem?_drop, List.getElem?_drop, List.getElem?_map, hX, Array.getElem?_toList]
    by_cases z : h0.length + i < h.length
    · have e7 : h[h0.length + i]? = some h[h0.length + i] := List.getElem?_eq_getElem z
      obtain ⟨x, hx⟩ := ha (h0.length + i) _ (Nat.le_add_right _ _) e7
      rw [hx] at e7
      have e8 : H[nd_z g + (h0.length + i)]? = some (nd_pa g x.1 x.2.1 x.2.2) := hR.2.2 _ _ e7
      rw [Nat.add_assoc, e8, e7]
      show some (nd_pa g x.1 x.2.1 x.2.2).slots.size = some x.2.1
      rw [nd_pa_size]
    · rw [List.getElem?_eq_none (by omega), Array.getElem?_eq_none (by rw [hR.1]; omega)]
      rfl
  refine k H ls locs hl hR hS T hT { Xs with same := ⟨e1, e2, ?_, e4, ?_, e6⟩ }
  · rw [hH, hR.1, hX]; omega
  · rw [hH]
    exact Nat.le_trans (Nat.le_of_eq (congrArg List.sum hs)) h2
theorem nd_tightS {h0 hx : nd_H} {A c2 s2 : Nat} {c : nd_C} (hX : X.2.2.1.heap.size = nd_z g + h0.length) (hA : A < h0.length) (he : so_e h0 hx c2 s2) (k : nd_W g mm d mc ms K X pc lv st (hx.set A c) c2 s2) : nd_W g mm d mc ms K X pc lv st (hx.set A c) cs ss := by
  obtain ⟨⟨a1, a2⟩, a3, a4, a5⟩ := he
  refine nd_tight hX (by rw [List.length_set]; exact a1) (by rw [List.length_set]; exact a3) ?_ (fun i k h1 h2 => a5 i k h1 (by rw [List.getElem?_set_ne (by omega)] at h2; exact h2)) k
  rw [List.map_set, List.drop_set, if_pos hA]
  exact a4
end TI

