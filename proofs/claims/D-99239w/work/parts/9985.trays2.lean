set_option maxRecDepth 100000
/-! ===== trays are written ===== -/
theorem l_getD_set {l : List Int64} {k : Nat} {w : Int64} (hk : k < l.length) (j : Nat) : (l.set k w).getD j 0 = if j = k then w else l.getD j 0 := by
  rw [List.getD_eq_getElem?_getD, List.getD_eq_getElem?_getD, List.getElem?_set]
  by_cases e : k = j
  · subst e
    rw [if_pos rfl, if_pos rfl, if_pos hk]; rfl
  · rw [if_neg e, if_neg (Ne.symm e)]
theorem ty_rw.upI {h : nd_H} {b k n : Nat} {q : Nat × List Int64} {f : Nat → Int32} {x : Int32} {w : Int64} (hb : b < h.length) (hc : (q.1 = 0 ∧ n = 2) ∨ (q.1 = 1 ∧ n = 3) ∨ (q.1 = 2 ∧ n = 0)) (e4 : ∀ k, k < q.2.length → (f k).toInt64 = q.2.getD k 0) (hk : k < q.2.length) (hx : x.toInt64 = w) : ty_rw (h.set b (.inl (n, q.2.length, .inl (upd f k x)))) b (q.1, q.2.set k w) := by
  have e : ∀ j, j < (q.2.set k w).length → (upd f k x j).toInt64 = (q.2.set k w).getD j 0 := by
    intro j hj
    rw [List.length_set] at hj
    rw [l_getD_set hk]
    by_cases z : j = k
    · subst z; rw [upd_s, if_pos rfl]; exact hx
    · rw [upd_n z, if_neg z]; exact e4 j hj
  refine ⟨n, .inl (upd f k x), by show _ = some (Sum.inl (n, (q.2.set k w).length, _)); rw [List.length_set]; exact List.getElem?_set_self hb, ?_⟩
  rcases hc with ⟨z1, z2⟩ | ⟨z1, z2⟩ | ⟨z1, z2⟩
  · exact Or.inl ⟨z1, z2, _, rfl, e⟩
  · exact Or.inr (Or.inl ⟨z1, z2, _, rfl, e⟩)
  · exact Or.inr (Or.inr (Or.inl ⟨z1, z2, _, rfl, e⟩))
theorem ty_rw.upL {h : nd_H} {b k : Nat} {q : Nat × List Int64} {f : Nat → Int64} {w : Int64} (hb : b < h.length) (hc : q.1 = 3) (e4 : ∀ k, k < q.2.length → f k = q.2.getD k 0) (hk : k < q.2.length) : ty_rw (h.set b (.inl (1, q.2.length, .inr (.inl (vp_updL f k w))))) b (q.1, q.2.set k w) := by
  refine ⟨1, .inr (.inl (vp_updL f k w)), by show _ = some (Sum.inl (1, (q.2.set k w).length, _)); rw [List.length_set]; exact List.getElem?_set_self hb, Or.inr (Or.inr (Or.inr ⟨hc, rfl, _, rfl, ?_⟩))⟩
  intro j hj
  have hj : j < (q.2.set k w).length := hj
  rw [List.length_set] at hj
  show vp_updL f k w j = (q.2.set k w).getD j 0
  rw [l_getD_set hk]
  unfold vp_updL
  split
  · rfl
  · exact e4 j hj
theorem l_at_new {h : nd_H} {c x : nd_C} {T : Nat} (hT : T < h.length) : ((h ++ [c]).set T x)[h.length]? = some c := by
  rw [List.getElem?_set_ne (by omega), List.getElem?_append_right (Nat.le_refl _), Nat.sub_self]; rfl
theorem l_rep0 (n k : Nat) : (List.replicate n (0 : Int64)).getD k 0 = 0 := by
  rw [List.getD_eq_getElem?_getD, List.getElem?_replicate]
  split <;> rfl
section TR3
variable {g : nd_G} {mm : nd_Mt} {d mc ms : Nat} {K : nd_K} {X : nd_X} {pc : Nat} {lv : List (Option Value)} {st : List Value} {h : nd_H} {cs ss : Nat}
theorem cy_put (hC : nd_Cx g mm X) {T index v : Nat} {x0 : Value} (hb : h[T]? = some (.inr (nX6, [x0]))) (hlink : Cond.fieldLink mm.1.cls index "NapkinDeeds$Tray" "row" "Ljava/lang/Object;" ∈ lw_all) (hd : decode mm.2.1 pc = .ok (.putfield index, 3)) (kk : nd_W g mm d mc ms K X (pc + 3) lv st (h.set T (.inr (nX6, [.ref v]))) cs ss) : nd_W g mm d mc ms K X pc lv (.ref v :: .ref T :: st) h cs ss :=
  nd_put (ci := nX6) hC in_X6 rfl hb 0 (by decide) tyX6 tyX6_ok (by decide +kernel) hlink (fun _ z => z) rfl rfl rfl (by show 0 < 1; decide) hd kk
end TR3
section TR4
variable {g : nd_G} {d : Nat} {K : nd_K} {h : nd_H}
theorem ty_put (hg : nd_OK g) {t k : Nat} {q : Nat × List Int64} {b : Nat} {v : Int64} (ht : h[t]? = some (.inr (nX6, [.ref b]))) (hT : ty_rw h b q) (hl : q.2.length ≤ 30) (hk : k < q.2.length) (hK : ∀ c, ty_rw (h.set b c) b (q.1, q.2.set k (sy_cut q.1 v)) → K (.inl none) (h.set b c)) : nd_M g mX6_put d 0 0 [.ref t, .int (nI k), .long v] h K := by
  obtain ⟨n, a, hb, hor⟩ := hT
  refine nd_enter hg (by decide) rfl (Nat.le_of_ble_eq_true rfl) (fun X hC => ?_)
  rcases hor with ⟨e1, e2, f, e3, e4⟩ | ⟨e1, e2, f, e3, e4⟩ | ⟨e1, e2, f, e3, e4⟩ | ⟨e1, e2, f, e3, e4⟩
  · subst e2; subst e3
    refine nd_aload_n hC dX6_put_0 rfl rfl ?_
    refine nd_get (ci := nX6) hC in_X6 rfl ht 0 (by decide) q376 (fun _ z => z) rfl dX6_put_1 ?_
    refine nd_instA hC q892 (t := .byte) rfl (fun _ _ => rfl) hb dX6_put_4 ?_
    refine nd_if_eqN hC (tgt := 25) (by omega) dX6_put_7 (by decide) (fun hq => absurd hq (by decide)) (fun _ => ?_)
    refine nd_aload_n hC dX6_put_10 rfl rfl ?_
    refine nd_get (ci := nX6) hC in_X6 rfl ht 0 (by decide) q376 (fun _ z => z) rfl dX6_put_11 ?_
    refine nd_castA hC q892 (t := .byte) rfl (fun _ _ => rfl) hb dX6_put_14 ?_
    refine nd_iload_n hC dX6_put_17 rfl ?_
    refine nd_lload_n hC dX6_put_18 rfl ?_
    first | with_reducible refine nd_l2iN hC dX6_put_19 ?_ | refine nd_l2i hC dX6_put_19 ?_
    refine nd_i2b hC dX6_put_20 ?_
    refine nd_bastoreN hC hb hk (by omega) dX6_put_21 ?_
    refine nd_goto hC (tgt := 84) dX6_put_22 (by decide) ?_
    refine nd_return hC rfl (by omega) (by omega) dX6_put_84 ((hK _ (ty_rw.upI (nd_get_lt hb) (Or.inl ⟨e1, rfl⟩) e4 hk (by unfold sy_cut; rw [if_pos e1, vp_nar_byte, i8_id]))))
  · subst e2; subst e3
    refine nd_aload_n hC dX6_put_0 rfl rfl ?_
    refine nd_get (ci := nX6) hC in_X6 rfl ht 0 (by decide) q376 (fun _ z => z) rfl dX6_put_1 ?_
    refine nd_instNo hC q892 (nw_nc hC [false, true, true, false, false, true, true, false, false, true, true] rfl) (t := .short) rfl (fun _ _ => rfl) hb dX6_put_4 ?_
    refine nd_if_eqN hC (tgt := 25) (by omega) dX6_put_7 (by decide) (fun _ => ?_) (fun hq => absurd rfl hq)
    refine nd_aload_n hC dX6_put_25 rfl rfl ?_
    refine nd_get (ci := nX6) hC in_X6 rfl ht 0 (by decide) q376 (fun _ z => z) rfl dX6_put_26 ?_
    refine nd_instA hC q893 (t := .short) rfl (fun _ _ => rfl) hb dX6_put_29 ?_
    refine nd_if_eqN hC (tgt := 50) (by omega) dX6_put_32 (by decide) (fun hq => absurd hq (by decide)) (fun _ => ?_)
    refine nd_aload_n hC dX6_put_35 rfl rfl ?_
    refine nd_get (ci := nX6) hC in_X6 rfl ht 0 (by decide) q376 (fun _ z => z) rfl dX6_put_36 ?_
    refine nd_castA hC q893 (t := .short) rfl (fun _ _ => rfl) hb dX6_put_39 ?_
    refine nd_iload_n hC dX6_put_42 rfl ?_
    refine nd_lload_n hC dX6_put_43 rfl ?_
    first | with_reducible refine nd_l2iN hC dX6_put_44 ?_ | refine nd_l2i hC dX6_put_44 ?_
    refine nd_i2s hC dX6_put_45 ?_
    refine nd_sastoreN hC hb hk (by omega) dX6_put_46 ?_
    refine nd_goto hC (tgt := 84) dX6_put_47 (by decide) ?_
    refine nd_return hC rfl (by omega) (by omega) dX6_put_84 ((hK _ (ty_rw.upI (nd_get_lt hb) (Or.inr (Or.inl ⟨e1, rfl⟩)) e4 hk (by unfold sy_cut; rw [if_neg (by omega), if_pos e1]; show (v.toInt32.toInt16.toInt32.toInt16.toInt32).toInt64 = _; rw [i16_id]))))
  · subst e2; subst e3
    refine nd_aload_n hC dX6_put_0 rfl rfl ?_
    refine nd_get (ci := nX6) hC in_X6 rfl ht 0 (by decide) q376 (fun _ z => z) rfl dX6_put_1 ?_
    refine nd_instNo hC q892 (nw_nc hC [false, true, true, false, false, true, false, true, false, false] rfl) (t := .int) rfl (fun _ _ => rfl) hb dX6_put_4 ?_
    refine nd_if_eqN hC (tgt := 25) (by omega) dX6_put_7 (by decide) (fun _ => ?_) (fun hq => absurd rfl hq)
    refine nd_aload_n hC dX6_put_25 rfl rfl ?_
    refine nd_get (ci := nX6) hC in_X6 rfl ht 0 (by decide) q376 (fun _ z => z) rfl dX6_put_26 ?_
    refine nd_instNo hC q893 (nw_nc hC [false, true, true, false, true, true, true, false, false, true, false] rfl) (t := .int) rfl (fun _ _ => rfl) hb dX6_put_29 ?_
    refine nd_if_eqN hC (tgt := 50) (by omega) dX6_put_32 (by decide) (fun _ => ?_) (fun hq => absurd rfl hq)
    refine nd_aload_n hC dX6_put_50 rfl rfl ?_
    refine nd_get (ci := nX6) hC in_X6 rfl ht 0 (by decide) q376 (fun _ z => z) rfl dX6_put_51 ?_
    refine nd_instA hC q894 (t := .int) rfl (fun _ _ => rfl) hb dX6_put_54 ?_
    refine nd_if_eqN hC (tgt := 74) (by omega) dX6_put_57 (by decide) (fun hq => absurd hq (by decide)) (fun _ => ?_)
    refine nd_aload_n hC dX6_put_60 rfl rfl ?_
    refine nd_get (ci := nX6) hC in_X6 rfl ht 0 (by decide) q376 (fun _ z => z) rfl dX6_put_61 ?_
    refine nd_castA hC q894 (t := .int) rfl (fun _ _ => rfl) hb dX6_put_64 ?_
    refine nd_iload_n hC dX6_put_67 rfl ?_
    refine nd_lload_n hC dX6_put_68 rfl ?_
    first | with_reducible refine nd_l2iN hC dX6_put_69 ?_ | refine nd_l2i hC dX6_put_69 ?_
    refine nd_iastoreN hC hb hk (by omega) dX6_put_70 ?_
    refine nd_goto hC (tgt := 84) dX6_put_71 (by decide) ?_
    refine nd_return hC rfl (by omega) (by omega) dX6_put_84 ((hK _ (ty_rw.upI (nd_get_lt hb) (Or.inr (Or.inr ⟨e1, rfl⟩)) e4 hk (by unfold sy_cut; rw [if_neg (by omega), if_neg (by omega), if_pos e1]))))
  · subst e2; subst e3
    refine nd_aload_n hC dX6_put_0 rfl rfl ?_
    refine nd_get (ci := nX6) hC in_X6 rfl ht 0 (by decide) q376 (fun _ z => z) rfl dX6_put_1 ?_
    refine nd_instNo hC q892 (nw_nc hC [false, true, true, false, false, true, false, true, true, true, true] rfl) (t := .long) rfl (fun _ _ => rfl) hb dX6_put_4 ?_
    refine nd_if_eqN hC (tgt := 25) (by omega) dX6_put_7 (by decide) (fun _ => ?_) (fun hq => absurd rfl hq)
    refine nd_aload_n hC dX6_put_25 rfl rfl ?_
    refine nd_get (ci := nX6) hC in_X6 rfl ht 0 (by decide) q376 (fun _ z => z) rfl dX6_put_26 ?_
    refine nd_instNo hC q893 (nw_nc hC [false, true, true, false, true, true, true, true, false, true, false] rfl) (t := .long) rfl (fun _ _ => rfl) hb dX6_put_29 ?_
    refine nd_if_eqN hC (tgt := 50) (by omega) dX6_put_32 (by decide) (fun _ => ?_) (fun hq => absurd rfl hq)
    refine nd_aload_n hC dX6_put_50 rfl rfl ?_
    refine nd_get (ci := nX6) hC in_X6 rfl ht 0 (by decide) q376 (fun _ z => z) rfl dX6_put_51 ?_
    refine nd_instNo hC q894 (nw_nc hC [false, true, true, true, true, false, false, false, false, false] rfl) (t := .long) rfl (fun _ _ => rfl) hb dX6_put_54 ?_
    refine nd_if_eqN hC (tgt := 74) (by omega) dX6_put_57 (by decide) (fun _ => ?_) (fun hq => absurd rfl hq)
    refine nd_aload_n hC dX6_put_74 rfl rfl ?_
    refine nd_get (ci := nX6) hC in_X6 rfl ht 0 (by decide) q376 (fun _ z => z) rfl dX6_put_75 ?_
    refine nd_castA hC q895 (t := .long) rfl (fun _ _ => rfl) hb dX6_put_78 ?_
    refine nd_iload_n hC dX6_put_81 rfl ?_
    refine nd_lload_n hC dX6_put_82 rfl ?_
    refine nd_lastoreN hC hb hk (by omega) dX6_put_83 ?_
    have ec : sy_cut q.1 v = v := by unfold sy_cut; rw [if_neg (by omega), if_neg (by omega), if_neg (by omega)]
    rw [ec] at hK
    refine nd_return hC rfl (by omega) (by omega) dX6_put_84 ((hK _ (ty_rw.upL (nd_get_lt hb) e1 e4 hk)))
theorem ty_putZ (hg : nd_OK g) {t : Nat} {q : Nat × List Int64} {b : Nat} {i : Int32} {v : Int64} (ht : h[t]? = some (.inr (nX6, [.ref b]))) (hT : ty_rw h b q) (hl : q.2.length ≤ 30) (hout : ¬ vp_in i q.2.length) (hK : ∀ n k, K (.inr ("java/lang/ArrayIndexOutOfBoundsException", k)) (h ++ List.replicate n nd_J)) : nd_M g mX6_put d 3 222 [.ref t, .int i, .long v] h K := by
  obtain ⟨n, a, hb, hor⟩ := hT
  refine nd_enter hg (by decide) rfl (Nat.le_of_ble_eq_true rfl) (fun X hC => ?_)
  rcases hor with ⟨e1, e2, f, e3, e4⟩ | ⟨e1, e2, f, e3, e4⟩ | ⟨e1, e2, f, e3, e4⟩ | ⟨e1, e2, f, e3, e4⟩
  · subst e2; subst e3
    refine nd_aload_n hC dX6_put_0 rfl rfl ?_
    refine nd_get (ci := nX6) hC in_X6 rfl ht 0 (by decide) q376 (fun _ z => z) rfl dX6_put_1 ?_
    refine nd_instA hC q892 (t := .byte) rfl (fun _ _ => rfl) hb dX6_put_4 ?_
    refine nd_if_eqN hC (tgt := 25) (by omega) dX6_put_7 (by decide) (fun hq => absurd hq (by decide)) (fun _ => ?_)
    refine nd_aload_n hC dX6_put_10 rfl rfl ?_
    refine nd_get (ci := nX6) hC in_X6 rfl ht 0 (by decide) q376 (fun _ z => z) rfl dX6_put_11 ?_
    refine nd_castA hC q892 (t := .byte) rfl (fun _ _ => rfl) hb dX6_put_14 ?_
    refine nd_iload_n hC dX6_put_17 rfl ?_
    refine nd_lload_n hC dX6_put_18 rfl ?_
    first | with_reducible refine nd_l2iN hC dX6_put_19 ?_ | refine nd_l2i hC dX6_put_19 ?_
    refine nd_i2b hC dX6_put_20 ?_
    refine nd_bastZ hC hb (by omega) hout (by decide) (by omega) (by omega) dX6_put_21 (fun m k => ?_)
    exact nd_out hC rfl (by omega) (by omega) (hK m k)
  · subst e2; subst e3
    refine nd_aload_n hC dX6_put_0 rfl rfl ?_
    refine nd_get (ci := nX6) hC in_X6 rfl ht 0 (by decide) q376 (fun _ z => z) rfl dX6_put_1 ?_
    refine nd_instNo hC q892 (nw_nc hC [false, true, true, false, false, true, true, false, false, true, true] rfl) (t := .short) rfl (fun _ _ => rfl) hb dX6_put_4 ?_
    refine nd_if_eqN hC (tgt := 25) (by omega) dX6_put_7 (by decide) (fun _ => ?_) (fun hq => absurd rfl hq)
    refine nd_aload_n hC dX6_put_25 rfl rfl ?_
    refine nd_get (ci := nX6) hC in_X6 rfl ht 0 (by decide) q376 (fun _ z => z) rfl dX6_put_26 ?_
    refine nd_instA hC q893 (t := .short) rfl (fun _ _ => rfl) hb dX6_put_29 ?_
    refine nd_if_eqN hC (tgt := 50) (by omega) dX6_put_32 (by decide) (fun hq => absurd hq (by decide)) (fun _ => ?_)
    refine nd_aload_n hC dX6_put_35 rfl rfl ?_
    refine nd_get (ci := nX6) hC in_X6 rfl ht 0 (by decide) q376 (fun _ z => z) rfl dX6_put_36 ?_
    refine nd_castA hC q893 (t := .short) rfl (fun _ _ => rfl) hb dX6_put_39 ?_
    refine nd_iload_n hC dX6_put_42 rfl ?_
    refine nd_lload_n hC dX6_put_43 rfl ?_
    first | with_reducible refine nd_l2iN hC dX6_put_44 ?_ | refine nd_l2i hC dX6_put_44 ?_
    refine nd_i2s hC dX6_put_45 ?_
    refine nd_sastZ hC hb (by omega) hout (by decide) (by omega) (by omega) dX6_put_46 (fun m k => ?_)
    exact nd_out hC rfl (by omega) (by omega) (hK m k)
  · subst e2; subst e3
    refine nd_aload_n hC dX6_put_0 rfl rfl ?_
    refine nd_get (ci := nX6) hC in_X6 rfl ht 0 (by decide) q376 (fun _ z => z) rfl dX6_put_1 ?_
    refine nd_instNo hC q892 (nw_nc hC [false, true, true, false, false, true, false, true, false, false] rfl) (t := .int) rfl (fun _ _ => rfl) hb dX6_put_4 ?_
    refine nd_if_eqN hC (tgt := 25) (by omega) dX6_put_7 (by decide) (fun _ => ?_) (fun hq => absurd rfl hq)
    refine nd_aload_n hC dX6_put_25 rfl rfl ?_
    refine nd_get (ci := nX6) hC in_X6 rfl ht 0 (by decide) q376 (fun _ z => z) rfl dX6_put_26 ?_
    refine nd_instNo hC q893 (nw_nc hC [false, true, true, false, true, true, true, false, false, true, false] rfl) (t := .int) rfl (fun _ _ => rfl) hb dX6_put_29 ?_
    refine nd_if_eqN hC (tgt := 50) (by omega) dX6_put_32 (by decide) (fun _ => ?_) (fun hq => absurd rfl hq)
    refine nd_aload_n hC dX6_put_50 rfl rfl ?_
    refine nd_get (ci := nX6) hC in_X6 rfl ht 0 (by decide) q376 (fun _ z => z) rfl dX6_put_51 ?_
    refine nd_instA hC q894 (t := .int) rfl (fun _ _ => rfl) hb dX6_put_54 ?_
    refine nd_if_eqN hC (tgt := 74) (by omega) dX6_put_57 (by decide) (fun hq => absurd hq (by decide)) (fun _ => ?_)
    refine nd_aload_n hC dX6_put_60 rfl rfl ?_
    refine nd_get (ci := nX6) hC in_X6 rfl ht 0 (by decide) q376 (fun _ z => z) rfl dX6_put_61 ?_
    refine nd_castA hC q894 (t := .int) rfl (fun _ _ => rfl) hb dX6_put_64 ?_
    refine nd_iload_n hC dX6_put_67 rfl ?_
    refine nd_lload_n hC dX6_put_68 rfl ?_
    first | with_reducible refine nd_l2iN hC dX6_put_69 ?_ | refine nd_l2i hC dX6_put_69 ?_
    refine nd_iastZ hC hb (by omega) hout (by decide) (by omega) (by omega) dX6_put_70 (fun m k => ?_)
    exact nd_out hC rfl (by omega) (by omega) (hK m k)
  · subst e2; subst e3
    refine nd_aload_n hC dX6_put_0 rfl rfl ?_
    refine nd_get (ci := nX6) hC in_X6 rfl ht 0 (by decide) q376 (fun _ z => z) rfl dX6_put_1 ?_
    refine nd_instNo hC q892 (nw_nc hC [false, true, true, false, false, true, false, true, true, true, true] rfl) (t := .long) rfl (fun _ _ => rfl) hb dX6_put_4 ?_
    refine nd_if_eqN hC (tgt := 25) (by omega) dX6_put_7 (by decide) (fun _ => ?_) (fun hq => absurd rfl hq)
    refine nd_aload_n hC dX6_put_25 rfl rfl ?_
    refine nd_get (ci := nX6) hC in_X6 rfl ht 0 (by decide) q376 (fun _ z => z) rfl dX6_put_26 ?_
    refine nd_instNo hC q893 (nw_nc hC [false, true, true, false, true, true, true, true, false, true, false] rfl) (t := .long) rfl (fun _ _ => rfl) hb dX6_put_29 ?_
    refine nd_if_eqN hC (tgt := 50) (by omega) dX6_put_32 (by decide) (fun _ => ?_) (fun hq => absurd rfl hq)
    refine nd_aload_n hC dX6_put_50 rfl rfl ?_
    refine nd_get (ci := nX6) hC in_X6 rfl ht 0 (by decide) q376 (fun _ z => z) rfl dX6_put_51 ?_
    refine nd_instNo hC q894 (nw_nc hC [false, true, true, true, true, false, false, false, false, false] rfl) (t := .long) rfl (fun _ _ => rfl) hb dX6_put_54 ?_
    refine nd_if_eqN hC (tgt := 74) (by omega) dX6_put_57 (by decide) (fun _ => ?_) (fun hq => absurd rfl hq)
    refine nd_aload_n hC dX6_put_74 rfl rfl ?_
    refine nd_get (ci := nX6) hC in_X6 rfl ht 0 (by decide) q376 (fun _ z => z) rfl dX6_put_75 ?_
    refine nd_castA hC q895 (t := .long) rfl (fun _ _ => rfl) hb dX6_put_78 ?_
    refine nd_iload_n hC dX6_put_81 rfl ?_
    refine nd_lload_n hC dX6_put_82 rfl ?_
    refine nd_lastZ hC hb (by omega) hout (by decide) (by omega) (by omega) dX6_put_83 (fun m k => ?_)
    exact nd_out hC rfl (by omega) (by omega) (hK m k)
theorem ty_putN (hg : nd_OK g) {t : Nat} {i : Int32} {v : Int64} (ht : h[t]? = some (.inr (nX6, [.null]))) (hK : ∀ n k, K (.inr ("java/lang/NullPointerException", k)) (h ++ List.replicate n nd_J)) : nd_M g mX6_put d 3 222 [.ref t, .int i, .long v] h K := by
  refine nd_enter hg (by decide) rfl (Nat.le_of_ble_eq_true rfl) (fun X hC => ?_)
  refine nd_aload_n hC dX6_put_0 rfl rfl ?_
  refine nd_get (ci := nX6) hC in_X6 rfl ht 0 (by decide) q376 (fun _ z => z) rfl dX6_put_1 ?_
  refine nd_instN hC dX6_put_4 ?_
  refine nd_if_eqN hC (tgt := 25) (by omega) dX6_put_7 (by decide) (fun _ => ?_) (fun hq => absurd rfl hq)
  refine nd_aload_n hC dX6_put_25 rfl rfl ?_
  refine nd_get (ci := nX6) hC in_X6 rfl ht 0 (by decide) q376 (fun _ z => z) rfl dX6_put_26 ?_
  refine nd_instN hC dX6_put_29 ?_
  refine nd_if_eqN hC (tgt := 50) (by omega) dX6_put_32 (by decide) (fun _ => ?_) (fun hq => absurd rfl hq)
  refine nd_aload_n hC dX6_put_50 rfl rfl ?_
  refine nd_get (ci := nX6) hC in_X6 rfl ht 0 (by decide) q376 (fun _ z => z) rfl dX6_put_51 ?_
  refine nd_instN hC dX6_put_54 ?_
  refine nd_if_eqN hC (tgt := 74) (by omega) dX6_put_57 (by decide) (fun _ => ?_) (fun hq => absurd rfl hq)
  refine nd_aload_n hC dX6_put_74 rfl rfl ?_
  refine nd_get (ci := nX6) hC in_X6 rfl ht 0 (by decide) q376 (fun _ z => z) rfl dX6_put_75 ?_
  refine nd_castN hC dX6_put_78 ?_
  refine nd_iload_n hC dX6_put_81 rfl ?_
  refine nd_lload_n hC dX6_put_82 rfl ?_
  refine nd_lastoreNull hC (by decide) (by omega) (by omega) dX6_put_83 (fun m k => ?_)
  exact nd_out hC rfl (by omega) (by omega) (hK m k)
theorem ty_make (hg : nd_OK g) {T so : Nat} {x0 : Value} (hso : so < 4) {z : Int32} (hz : z.toInt ≤ 30) (ht : h[T]? = some (.inr (nX6, [x0]))) (hk : ∀ n c, z = nI n → n ≤ 30 → ty_rw ((h ++ [c]).set T (.inr (nX6, [.ref h.length]))) h.length (so, List.replicate n 0) → K (.inl none) ((h ++ [c]).set T (.inr (nX6, [.ref h.length])))) (hx : z < 0 → ∀ m k, K (.inr ("java/lang/NegativeArraySizeException", k)) (h ++ List.replicate m nd_J)) : nd_M g mX6_make d 3 54 [.ref T, .int (nI so), .int z] h K := by
  have hTl := nd_get_lt ht
  refine nd_enter hg (by decide) rfl (Nat.le_of_ble_eq_true rfl) (fun X hC => ?_)
  by_cases h0 : z < 0
  · have hx := hx h0
    obtain rfl | rfl | rfl | rfl : so = 0 ∨ so = 1 ∨ so = 2 ∨ so = 3 := by omega
    · refine nd_aload_n hC dX6_make_0 rfl rfl ?_
      refine nd_iload_n hC dX6_make_1 rfl ?_
      first | with_reducible refine nd_if_neB hC (tgt := 11) dX6_make_2 (by decide) (fun hq => ?_) (fun hq => ?_) | with_reducible refine nd_if_neN hC (tgt := 11) (by omega) dX6_make_2 (by decide) (fun hq => ?_) (fun hq => ?_) | refine nd_if_ne hC (tgt := 11) dX6_make_2 (by decide) (fun hq => ?_) (fun hq => ?_)
      · exact absurd rfl hq
      refine nd_iload_n hC dX6_make_5 rfl ?_
      refine nd_newarrayZ hC h0 (by exact Nat.le_of_ble_eq_true rfl) (by omega) (by omega) dX6_make_6 (fun m k => ?_)
      exact nd_out hC rfl (by omega) (by omega) (hx m k)
    · refine nd_aload_n hC dX6_make_0 rfl rfl ?_
      refine nd_iload_n hC dX6_make_1 rfl ?_
      first | with_reducible refine nd_if_neB hC (tgt := 11) dX6_make_2 (by decide) (fun hq => ?_) (fun hq => ?_) | with_reducible refine nd_if_neN hC (tgt := 11) (by omega) dX6_make_2 (by decide) (fun hq => ?_) (fun hq => ?_) | refine nd_if_ne hC (tgt := 11) dX6_make_2 (by decide) (fun hq => ?_) (fun hq => ?_)
      rotate_left
      · exact absurd hq (by omega)
      refine nd_iload_n hC dX6_make_11 rfl ?_
      refine nd_iconst hC (v := nI 1) (by rfl) dX6_make_12 ?_
      first | with_reducible refine nd_icmp_neN hC (tgt := 22) (by omega) (by omega) dX6_make_13 (by decide) (fun hq => ?_) (fun hq => ?_) | refine nd_icmp_ne hC (tgt := 22) dX6_make_13 (by decide) (fun hq => ?_) (fun hq => ?_)
      · exact absurd rfl hq
      refine nd_iload_n hC dX6_make_16 rfl ?_
      refine nd_newarrayZ hC h0 (by exact Nat.le_of_ble_eq_true rfl) (by omega) (by omega) dX6_make_17 (fun m k => ?_)
      exact nd_out hC rfl (by omega) (by omega) (hx m k)
    · refine nd_aload_n hC dX6_make_0 rfl rfl ?_
      refine nd_iload_n hC dX6_make_1 rfl ?_
      first | with_reducible refine nd_if_neB hC (tgt := 11) dX6_make_2 (by decide) (fun hq => ?_) (fun hq => ?_) | with_reducible refine nd_if_neN hC (tgt := 11) (by omega) dX6_make_2 (by decide) (fun hq => ?_) (fun hq => ?_) | refine nd_if_ne hC (tgt := 11) dX6_make_2 (by decide) (fun hq => ?_) (fun hq => ?_)
      rotate_left
      · exact absurd hq (by omega)
      refine nd_iload_n hC dX6_make_11 rfl ?_
      refine nd_iconst hC (v := nI 1) (by rfl) dX6_make_12 ?_
      first | with_reducible refine nd_icmp_neN hC (tgt := 22) (by omega) (by omega) dX6_make_13 (by decide) (fun hq => ?_) (fun hq => ?_) | refine nd_icmp_ne hC (tgt := 22) dX6_make_13 (by decide) (fun hq => ?_) (fun hq => ?_)
      rotate_left
      · exact absurd hq (by omega)
      refine nd_iload_n hC dX6_make_22 rfl ?_
      refine nd_iconst hC (v := nI 2) (by rfl) dX6_make_23 ?_
      first | with_reducible refine nd_icmp_neN hC (tgt := 33) (by omega) (by omega) dX6_make_24 (by decide) (fun hq => ?_) (fun hq => ?_) | refine nd_icmp_ne hC (tgt := 33) dX6_make_24 (by decide) (fun hq => ?_) (fun hq => ?_)
      · exact absurd rfl hq
      refine nd_iload_n hC dX6_make_27 rfl ?_
      refine nd_newarrayZ hC h0 (by exact Nat.le_of_ble_eq_true rfl) (by omega) (by omega) dX6_make_28 (fun m k => ?_)
      exact nd_out hC rfl (by omega) (by omega) (hx m k)
    · refine nd_aload_n hC dX6_make_0 rfl rfl ?_
      refine nd_iload_n hC dX6_make_1 rfl ?_
      first | with_reducible refine nd_if_neB hC (tgt := 11) dX6_make_2 (by decide) (fun hq => ?_) (fun hq => ?_) | with_reducible refine nd_if_neN hC (tgt := 11) (by omega) dX6_make_2 (by decide) (fun hq => ?_) (fun hq => ?_) | refine nd_if_ne hC (tgt := 11) dX6_make_2 (by decide) (fun hq => ?_) (fun hq => ?_)
      rotate_left
      · exact absurd hq (by omega)
      refine nd_iload_n hC dX6_make_11 rfl ?_
      refine nd_iconst hC (v := nI 1) (by rfl) dX6_make_12 ?_
      first | with_reducible refine nd_icmp_neN hC (tgt := 22) (by omega) (by omega) dX6_make_13 (by decide) (fun hq => ?_) (fun hq => ?_) | refine nd_icmp_ne hC (tgt := 22) dX6_make_13 (by decide) (fun hq => ?_) (fun hq => ?_)
      rotate_left
      · exact absurd hq (by omega)
      refine nd_iload_n hC dX6_make_22 rfl ?_
      refine nd_iconst hC (v := nI 2) (by rfl) dX6_make_23 ?_
      first | with_reducible refine nd_icmp_neN hC (tgt := 33) (by omega) (by omega) dX6_make_24 (by decide) (fun hq => ?_) (fun hq => ?_) | refine nd_icmp_ne hC (tgt := 33) dX6_make_24 (by decide) (fun hq => ?_) (fun hq => ?_)
      rotate_left
      · exact absurd hq (by omega)
      refine nd_iload_n hC dX6_make_33 rfl ?_
      refine nd_newarrayZ hC h0 (by exact Nat.le_of_ble_eq_true rfl) (by omega) (by omega) dX6_make_34 (fun m k => ?_)
      exact nd_out hC rfl (by omega) (by omega) (hx m k)
  · obtain ⟨n, hn9, rfl⟩ := op_nat (x := z) (by rw [← Int32.not_lt]; exact h0)
    rw [nI_toInt hn9] at hz
    have J : ∀ c, ty_rw ((h ++ [c]).set T (.inr (nX6, [.ref h.length]))) h.length (so, List.replicate n 0) → nd_W g mX6_make d 3 54 K X 36 [some (.ref T), some (.int (nI so)), some (.int (nI n))] [.ref h.length, .ref T] (h ++ [c]) 1 n := by
      intro c hc
      refine cy_put hC (x0 := x0) ((List.getElem?_append_left hTl).trans ht) q376 dX6_make_36 ?_
      refine nd_return hC rfl (by omega) (by omega) dX6_make_39 ((hk n c rfl (by omega) hc))
    obtain rfl | rfl | rfl | rfl : so = 0 ∨ so = 1 ∨ so = 2 ∨ so = 3 := by omega
    · refine nd_aload_n hC dX6_make_0 rfl rfl ?_
      refine nd_iload_n hC dX6_make_1 rfl ?_
      first | with_reducible refine nd_if_neB hC (tgt := 11) dX6_make_2 (by decide) (fun hq => ?_) (fun hq => ?_) | with_reducible refine nd_if_neN hC (tgt := 11) (by omega) dX6_make_2 (by decide) (fun hq => ?_) (fun hq => ?_) | refine nd_if_ne hC (tgt := 11) dX6_make_2 (by decide) (fun hq => ?_) (fun hq => ?_)
      · exact absurd rfl hq
      refine nd_iload_n hC dX6_make_5 rfl ?_
      refine nd_newarray hC (atype := .byte) (ty := 2) .byte (.inl (fun _ => 0)) q368 rfl rfl (fun _ _ => rfl) (N := n) rfl (nI_toInt (by omega)) (by show n * 1 ≤ 536870912; omega) (by omega) (by omega) dX6_make_6 ?_
      refine nd_goto hC (tgt := 36) dX6_make_8 (by decide) ?_
      exact nd_widen (by omega) (by omega) (J _ ⟨2, _, by show _ = some (Sum.inl (2, (List.replicate n (0 : Int64)).length, _)); rw [List.length_replicate]; exact l_at_new hTl, Or.inl ⟨rfl, rfl, _, rfl, fun k hk => by rw [l_rep0]; rfl⟩⟩)
    · refine nd_aload_n hC dX6_make_0 rfl rfl ?_
      refine nd_iload_n hC dX6_make_1 rfl ?_
      first | with_reducible refine nd_if_neB hC (tgt := 11) dX6_make_2 (by decide) (fun hq => ?_) (fun hq => ?_) | with_reducible refine nd_if_neN hC (tgt := 11) (by omega) dX6_make_2 (by decide) (fun hq => ?_) (fun hq => ?_) | refine nd_if_ne hC (tgt := 11) dX6_make_2 (by decide) (fun hq => ?_) (fun hq => ?_)
      rotate_left
      · exact absurd hq (by omega)
      refine nd_iload_n hC dX6_make_11 rfl ?_
      refine nd_iconst hC (v := nI 1) (by rfl) dX6_make_12 ?_
      first | with_reducible refine nd_icmp_neN hC (tgt := 22) (by omega) (by omega) dX6_make_13 (by decide) (fun hq => ?_) (fun hq => ?_) | refine nd_icmp_ne hC (tgt := 22) dX6_make_13 (by decide) (fun hq => ?_) (fun hq => ?_)
      · exact absurd rfl hq
      refine nd_iload_n hC dX6_make_16 rfl ?_
      refine nd_newarray hC (atype := .short) (ty := 3) .short (.inl (fun _ => 0)) q2559 rfl rfl (fun _ _ => rfl) (N := n) rfl (nI_toInt (by omega)) (by show n * 2 ≤ 536870912; omega) (by omega) (by omega) dX6_make_17 ?_
      refine nd_goto hC (tgt := 36) dX6_make_19 (by decide) ?_
      exact nd_widen (by omega) (by omega) (J _ ⟨3, _, by show _ = some (Sum.inl (3, (List.replicate n (0 : Int64)).length, _)); rw [List.length_replicate]; exact l_at_new hTl, Or.inr (Or.inl ⟨rfl, rfl, _, rfl, fun k hk => by rw [l_rep0]; rfl⟩)⟩)
    · refine nd_aload_n hC dX6_make_0 rfl rfl ?_
      refine nd_iload_n hC dX6_make_1 rfl ?_
      first | with_reducible refine nd_if_neB hC (tgt := 11) dX6_make_2 (by decide) (fun hq => ?_) (fun hq => ?_) | with_reducible refine nd_if_neN hC (tgt := 11) (by omega) dX6_make_2 (by decide) (fun hq => ?_) (fun hq => ?_) | refine nd_if_ne hC (tgt := 11) dX6_make_2 (by decide) (fun hq => ?_) (fun hq => ?_)
      rotate_left
      · exact absurd hq (by omega)
      refine nd_iload_n hC dX6_make_11 rfl ?_
      refine nd_iconst hC (v := nI 1) (by rfl) dX6_make_12 ?_
      first | with_reducible refine nd_icmp_neN hC (tgt := 22) (by omega) (by omega) dX6_make_13 (by decide) (fun hq => ?_) (fun hq => ?_) | refine nd_icmp_ne hC (tgt := 22) dX6_make_13 (by decide) (fun hq => ?_) (fun hq => ?_)
      rotate_left
      · exact absurd hq (by omega)
      refine nd_iload_n hC dX6_make_22 rfl ?_
      refine nd_iconst hC (v := nI 2) (by rfl) dX6_make_23 ?_
      first | with_reducible refine nd_icmp_neN hC (tgt := 33) (by omega) (by omega) dX6_make_24 (by decide) (fun hq => ?_) (fun hq => ?_) | refine nd_icmp_ne hC (tgt := 33) dX6_make_24 (by decide) (fun hq => ?_) (fun hq => ?_)
      · exact absurd rfl hq
      refine nd_iload_n hC dX6_make_27 rfl ?_
      refine nd_newarray hC (atype := .int) (ty := 0) .int (.inl (fun _ => 0)) q322 rfl rfl (fun _ _ => rfl) (N := n) rfl (nI_toInt (by omega)) (by show n * 4 ≤ 536870912; omega) (by omega) (by omega) dX6_make_28 ?_
      refine nd_goto hC (tgt := 36) dX6_make_30 (by decide) ?_
      exact nd_widen (by omega) (by omega) (J _ ⟨0, _, by show _ = some (Sum.inl (0, (List.replicate n (0 : Int64)).length, _)); rw [List.length_replicate]; exact l_at_new hTl, Or.inr (Or.inr (Or.inl ⟨rfl, rfl, _, rfl, fun k hk => by rw [l_rep0]; rfl⟩))⟩)
    · refine nd_aload_n hC dX6_make_0 rfl rfl ?_
      refine nd_iload_n hC dX6_make_1 rfl ?_
      first | with_reducible refine nd_if_neB hC (tgt := 11) dX6_make_2 (by decide) (fun hq => ?_) (fun hq => ?_) | with_reducible refine nd_if_neN hC (tgt := 11) (by omega) dX6_make_2 (by decide) (fun hq => ?_) (fun hq => ?_) | refine nd_if_ne hC (tgt := 11) dX6_make_2 (by decide) (fun hq => ?_) (fun hq => ?_)
      rotate_left
      · exact absurd hq (by omega)
      refine nd_iload_n hC dX6_make_11 rfl ?_
      refine nd_iconst hC (v := nI 1) (by rfl) dX6_make_12 ?_
      first | with_reducible refine nd_icmp_neN hC (tgt := 22) (by omega) (by omega) dX6_make_13 (by decide) (fun hq => ?_) (fun hq => ?_) | refine nd_icmp_ne hC (tgt := 22) dX6_make_13 (by decide) (fun hq => ?_) (fun hq => ?_)
      rotate_left
      · exact absurd hq (by omega)
      refine nd_iload_n hC dX6_make_22 rfl ?_
      refine nd_iconst hC (v := nI 2) (by rfl) dX6_make_23 ?_
      first | with_reducible refine nd_icmp_neN hC (tgt := 33) (by omega) (by omega) dX6_make_24 (by decide) (fun hq => ?_) (fun hq => ?_) | refine nd_icmp_ne hC (tgt := 33) dX6_make_24 (by decide) (fun hq => ?_) (fun hq => ?_)
      rotate_left
      · exact absurd hq (by omega)
      refine nd_iload_n hC dX6_make_33 rfl ?_
      refine nd_newarray hC (atype := .long) (ty := 1) .long (.inr (.inl (fun _ => 0))) q427 rfl rfl (fun _ _ => rfl) (N := n) rfl (nI_toInt (by omega)) (by show n * 8 ≤ 536870912; omega) (by omega) (by omega) dX6_make_34 ?_
      exact nd_widen (by omega) (by omega) (J _ ⟨1, _, by show _ = some (Sum.inl (1, (List.replicate n (0 : Int64)).length, _)); rw [List.length_replicate]; exact l_at_new hTl, Or.inr (Or.inr (Or.inr ⟨rfl, rfl, _, rfl, fun k hk => by rw [l_rep0]⟩))⟩)
end TR4
theorem cw_K.tr {o o2 : Nat → Nat} {nap : Nat} {ds : List Nat} {gi : Nat → Value} {dss : Nat → List Nat} {S : sy_S} {h h2 : nd_H} (H : cw_K o nap ds gi dss S h) {t : Nat} (ht : t < 4) {q : Nat × List Int64} (hoo : ∀ a, o a ≠ 0 → o2 a = o a) (ho2 : ∀ a, o2 a ≠ 0 → a < h2.length ∧ ((2 ≤ a ∧ a ≤ 5) ∨ 123 ≤ a)) (hf : ∀ a c, h[a]? = some c → a ≠ 96 + t → o a ≠ 4 + t → h2[a]? = some c) (hb : cw_ty o2 h2 t (some q)) : cw_K o2 nap ds gi dss (sy_tr S t q) h2 := by
  have H0 := H
  obtain ⟨⟨x, a1⟩, a2, ⟨c1, c2, c3, c4, c5⟩, a4, a5, a6, a7, a8, ⟨tf, a9, a10⟩, a11, a12⟩ := H
  have kl : ∀ a c, h[a]? = some c → a < 123 → ¬ (2 ≤ a ∧ a ≤ 5) → a ≠ 96 + t → h2[a]? = some c := fun a c e z1 z2 z3 => hf a c e z3 (by rw [H0.lo z1 z2]; omega)
  have ko : ∀ a c, h[a]? = some c → o a ≠ 0 → o a ≠ 4 + t → h2[a]? = some c := fun a c e z1 z2 => hf a c e (by have := a12 a z1; omega) z2
  refine ⟨⟨x, kl _ _ a1 (by omega) (by omega) (by omega)⟩, kl _ _ a2 (by omega) (by omega) (by omega), ⟨c1.kp (fun a ha => (a12 a ha).1) hoo (fun a c z e => ko a c e (by omega) (by omega)), c2.kp (fun i c hi hi2 e => kl _ c e (by omega) (by omega) (by omega)), c3.kp (by omega) hoo (fun c e => kl _ c e (by omega) (by omega) (by omega)) (fun a c z e => ko a c e (by omega) (by omega)), c4, fun i hi => (c5 i hi).kp hoo (fun b c z e => ko b c e (by omega) (by omega))⟩, kl _ _ a4 (by omega) (by omega) (by omega), fun i hi => ?_, a6, kl _ _ a7 (by omega) (by omega) (by omega), fun s hs => ?_, ⟨tf, kl _ _ a9 (by omega) (by omega) (by omega), a10⟩, kl _ _ a11 (by omega) (by omega) (by omega), ho2⟩
  · refine (a5 i hi).kp (fun a ha => (a12 a ha).1) hoo (fun a c e z => ?_)
    rcases z with z | z | ⟨b, -, z⟩
    · exact ko a c e (by omega) (by omega)
    · exact ko a c e (by omega) (by omega)
    · exact ko a c e (by omega) (by omega)
  · show cw_ty o2 h2 s (if s = t then some q else sy_t S s)
    by_cases e : s = t
    · subst e; rw [if_pos rfl]; exact hb
    · rw [if_neg e]
      refine (a8 s hs).kp hoo (fun a c e z => ?_)
      rcases z with z | z
      · exact kl a c e (by omega) (by omega) (by omega)
      · exact ko a c e (by omega) (by omega)
theorem cw_K.trW {o : Nat → Nat} {nap : Nat} {ds : List Nat} {gi : Nat → Value} {dss : Nat → List Nat} {S : sy_S} {h : nd_H} (H : cw_K o nap ds gi dss S h) {t b : Nat} (ht : t < 4) {q : Nat × List Int64} {c : nd_C} (hbo : o b = 4 + t) (hb : 123 ≤ b) (hT : h[96 + t]? = some (.inr (nX6, [.ref b]))) (hw : ty_rw (h.set b c) b q) : cw_K o nap ds gi dss (sy_tr S t q) (h.set b c) := by
  obtain ⟨-, -, -, -, -, -, -, -, -, -, a12⟩ := id H
  exact H.tr ht (fun _ _ => rfl) (fun a ha => by rw [List.length_set]; exact a12 a ha) (fun a c e z1 z2 => (List.getElem?_set_ne (fun z => z2 (by rw [← z]; exact hbo))).trans e) ⟨b, hbo, hb, (List.getElem?_set_ne (by omega)).trans hT, hw⟩
theorem cw_S.setH {h : nd_H} (H : cw_S h) {b : Nat} {c : nd_C} (hb : 123 ≤ b) : cw_S (h.set b c) := H.kp (fun a ha => List.getElem?_set_ne (by unfold cw_sc at ha; omega))
theorem cw_fr.set {h h2 : nd_H} (H : cw_fr h h2) {b : Nat} {c : nd_C} (hb : 123 ≤ b) : cw_fr h (h2.set b c) := ⟨by rw [List.length_set]; exact H.1, fun a z1 z2 => (List.getElem?_set_ne (by omega)).trans (H.2 a z1 z2)⟩

