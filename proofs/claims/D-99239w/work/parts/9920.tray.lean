set_option maxRecDepth 100000
/-! ===== an atom of the premises, by its path ===== -/
def nw_at : List Bool → Cond → Cond
  | [], c => c
  | b :: p, .and x y => nw_at p (bif b then y else x)
  | _ :: _, c => c
theorem nw_spec {args : Array Value} {s : State} : ∀ (p : List Bool) (c : Cond), c.before args s = true → (nw_at p c).before args s = true := by
  intro p
  induction p with
  | nil => intro c h; exact h
  | cons b p ih =>
    intro c h
    cases c with
    | and x y =>
      rw [Cond.before_and, Bool.and_eq_true] at h
      cases b with
      | true => exact ih y h.2
      | false => exact ih x h.1
    | _ => exact h
theorem nw_nc {g : nd_G} {mm : nd_Mt} {X : nd_X} (hC : nd_Cx g mm X) (p : List Bool) {C T : String} (h : nw_at p narrow_1 = Cond.not (.castable C T)) : va_Nc C T X.2.2.1 := by
  obtain ⟨b0, -, hn⟩ := hC.ok.2.2.1
  rw [Cond.before_and, Bool.and_eq_true] at hn
  have h1 := nw_spec p _ hn.2
  rw [h] at h1
  exact va_Nc.moved hC.al (va_Nc.of h1)
section TR1
variable {g : nd_G} {mm : nd_Mt} {d mc ms : Nat} {K : nd_K} {X : nd_X} {pc : Nat} {lv : List (Option Value)} {st : List Value} {h : nd_H} {cs ss : Nat}
theorem nd_pa_cell {ty n : Nat} {a : nd_A} : (nd_pa g ty n a).vm.isStatics = false ∧ (nd_pa g ty n a).cls = nd_tc g ty := by
  rcases a with f | f | f <;> exact ⟨rfl, rfl⟩
theorem nd_acell (hC : nd_Cx g mm X) {b ty n : Nat} {a : nd_A} {t : FieldType} {nm : String} {H : Heap} (hR : nd_R g h H) (ht : nd_ty[ty]? = some t) (hra : ∀ U cA, va_RA U cA t = (U.vm.findClass nm = some cA)) (hb : h[b]? = some (.inl (ty, n, a))) : ∃ cell : Cell, H[nd_z g + b]? = some cell ∧ cell.vm.isStatics = false ∧ X.2.2.1.vm.findClass nm = some cell.cls := by
  refine ⟨nd_pa g ty n a, hR.2.2 b _ hb, nd_pa_cell.1, ?_⟩
  rw [nd_pa_cell.2, ← hra]
  exact nd_ara hC ht
theorem nd_instA (hC : nd_Cx g mm X) {b ty n index : Nat} {a : nd_A} {t : FieldType} {nm : String} (hlink : Cond.classLink mm.1.cls index nm ∈ lw_all) (ht : nd_ty[ty]? = some t) (hra : ∀ U cA, va_RA U cA t = (U.vm.findClass nm = some cA)) (hb : h[b]? = some (.inl (ty, n, a))) (hd : decode mm.2.1 pc = .ok (.instanceof index, 3)) (k : nd_W g mm d mc ms K X (pc + 3) lv (.int (nI 1) :: st) h cs ss) : nd_W g mm d mc ms K X pc lv (.ref b :: st) h cs ss :=
  fun H ls locs hl hR hS => va_instE hC.1 hC.2.1 hC.own (hC.hts _ hlink) (nd_acell hC hR ht hra hb) hd (k H ls locs hl hR hS)
theorem nd_castA (hC : nd_Cx g mm X) {b ty n index : Nat} {a : nd_A} {t : FieldType} {nm : String} (hlink : Cond.classLink mm.1.cls index nm ∈ lw_all) (ht : nd_ty[ty]? = some t) (hra : ∀ U cA, va_RA U cA t = (U.vm.findClass nm = some cA)) (hb : h[b]? = some (.inl (ty, n, a))) (hd : decode mm.2.1 pc = .ok (.checkcast index, 3)) (k : nd_W g mm d mc ms K X (pc + 3) lv (.ref b :: st) h cs ss) : nd_W g mm d mc ms K X pc lv (.ref b :: st) h cs ss :=
  fun H ls locs hl hR hS => va_castE hC.1 hC.2.1 hC.own (hC.hts _ hlink) (nd_acell hC hR ht hra hb) hd (k H ls locs hl hR hS)
theorem nd_instNo (hC : nd_Cx g mm X) {b ty n index : Nat} {a : nd_A} {t : FieldType} {nm C : String} (hlink : Cond.classLink mm.1.cls index nm ∈ lw_all) (hnc : va_Nc C nm X.2.2.1) (ht : nd_ty[ty]? = some t) (hra : ∀ U cA, va_RA U cA t = (U.vm.findClass C = some cA)) (hb : h[b]? = some (.inl (ty, n, a))) (hd : decode mm.2.1 pc = .ok (.instanceof index, 3)) (k : nd_W g mm d mc ms K X (pc + 3) lv (.int (nI 0) :: st) h cs ss) : nd_W g mm d mc ms K X pc lv (.ref b :: st) h cs ss :=
  fun H ls locs hl hR hS => va_instNo hC.1 hC.2.1 hC.own (hC.hts _ hlink) hnc (nd_acell hC hR ht hra hb) hd (k H ls locs hl hR hS)
theorem nd_instN (hC : nd_Cx g mm X) {index : Nat} (hd : decode mm.2.1 pc = .ok (.instanceof index, 3)) (k : nd_W g mm d mc ms K X (pc + 3) lv (.int (nI 0) :: st) h cs ss) : nd_W g mm d mc ms K X pc lv (.null :: st) h cs ss :=
  fun H ls locs hl hR hS => lv_instN hC.1 hC.2.1 hd (k H ls locs hl hR hS)
theorem nd_castN (hC : nd_Cx g mm X) {index : Nat} (hd : decode mm.2.1 pc = .ok (.checkcast index, 3)) (k : nd_W g mm d mc ms K X (pc + 3) lv (.null :: st) h cs ss) : nd_W g mm d mc ms K X pc lv (.null :: st) h cs ss :=
  fun H ls locs hl hR hS => lv_castN hC.1 hC.2.1 hd (k H ls locs hl hR hS)
def ty_rw (h : nd_H) (b : Nat) (q : Nat × List Int64) : Prop := ∃ n a, h[b]? = some (.inl (n, q.2.length, a)) ∧ ((q.1 = 0 ∧ n = 2 ∧ ∃ f, a = .inl f ∧ ∀ k, k < q.2.length → (f k).toInt64 = q.2.getD k 0) ∨ (q.1 = 1 ∧ n = 3 ∧ ∃ f, a = .inl f ∧ ∀ k, k < q.2.length → (f k).toInt64 = q.2.getD k 0) ∨ (q.1 = 2 ∧ n = 0 ∧ ∃ f, a = .inl f ∧ ∀ k, k < q.2.length → (f k).toInt64 = q.2.getD k 0) ∨ (q.1 = 3 ∧ n = 1 ∧ ∃ f, a = .inr (.inl f) ∧ ∀ k, k < q.2.length → f k = q.2.getD k 0))
def ty_at (h : nd_H) (t : Nat) (q : Option (Nat × List Int64)) : Prop := match q with
  | none => h[t]? = some (.inr (nX6, [.null]))
  | some q => ∃ b, h[t]? = some (.inr (nX6, [.ref b])) ∧ ty_rw h b q
end TR1
section TR2
variable {g : nd_G} {d : Nat} {K : nd_K} {h : nd_H}
theorem ty_get (hg : nd_OK g) {t k : Nat} {q : Nat × List Int64} (hT : ty_at h t (some q)) (hl : q.2.length ≤ 30) (hk : k < q.2.length) (hK : K (.inl (some (.long (q.2.getD k 0)))) h) : nd_M g mX6_at d 0 0 [.ref t, .int (nI k)] h K := by
  obtain ⟨b, ht, n, a, hb, hor⟩ := hT
  refine nd_enter hg (by decide) rfl (Nat.le_of_ble_eq_true rfl) (fun X hC => ?_)
  rcases hor with ⟨e1, e2, f, e3, e4⟩ | ⟨e1, e2, f, e3, e4⟩ | ⟨e1, e2, f, e3, e4⟩ | ⟨e1, e2, f, e3, e4⟩
  · subst e2; subst e3
    refine nd_aload_n hC dX6_at_0 rfl rfl ?_
    refine nd_get (ci := nX6) hC in_X6 rfl ht 0 (by decide) q376 (fun _ z => z) rfl dX6_at_1 ?_
    refine nd_instA hC q892 (t := .byte) rfl (fun _ _ => rfl) hb dX6_at_4 ?_
    refine nd_if_eqN hC (tgt := 21) (by omega) dX6_at_7 (by decide) (fun hq => absurd hq (by decide)) (fun _ => ?_)
    refine nd_aload_n hC dX6_at_10 rfl rfl ?_
    refine nd_get (ci := nX6) hC in_X6 rfl ht 0 (by decide) q376 (fun _ z => z) rfl dX6_at_11 ?_
    refine nd_castA hC q892 (t := .byte) rfl (fun _ _ => rfl) hb dX6_at_14 ?_
    refine nd_iload_n hC dX6_at_17 rfl ?_
    refine nd_baloadN hC hb hk (by omega) dX6_at_18 ?_
    refine nd_i2l hC dX6_at_19 ?_
    rw [e4 k hk]
    refine nd_lreturn hC rfl (by omega) (by omega) dX6_at_20 (hK)
  · subst e2; subst e3
    refine nd_aload_n hC dX6_at_0 rfl rfl ?_
    refine nd_get (ci := nX6) hC in_X6 rfl ht 0 (by decide) q376 (fun _ z => z) rfl dX6_at_1 ?_
    refine nd_instNo hC q892 (nw_nc hC [false, true, true, false, false, true, true, false, false, true, true] rfl) (t := .short) rfl (fun _ _ => rfl) hb dX6_at_4 ?_
    refine nd_if_eqN hC (tgt := 21) (by omega) dX6_at_7 (by decide) (fun _ => ?_) (fun hq => absurd rfl hq)
    refine nd_aload_n hC dX6_at_21 rfl rfl ?_
    refine nd_get (ci := nX6) hC in_X6 rfl ht 0 (by decide) q376 (fun _ z => z) rfl dX6_at_22 ?_
    refine nd_instA hC q893 (t := .short) rfl (fun _ _ => rfl) hb dX6_at_25 ?_
    refine nd_if_eqN hC (tgt := 42) (by omega) dX6_at_28 (by decide) (fun hq => absurd hq (by decide)) (fun _ => ?_)
    refine nd_aload_n hC dX6_at_31 rfl rfl ?_
    refine nd_get (ci := nX6) hC in_X6 rfl ht 0 (by decide) q376 (fun _ z => z) rfl dX6_at_32 ?_
    refine nd_castA hC q893 (t := .short) rfl (fun _ _ => rfl) hb dX6_at_35 ?_
    refine nd_iload_n hC dX6_at_38 rfl ?_
    refine nd_saloadN hC hb hk (by omega) dX6_at_39 ?_
    refine nd_i2l hC dX6_at_40 ?_
    rw [e4 k hk]
    refine nd_lreturn hC rfl (by omega) (by omega) dX6_at_41 (hK)
  · subst e2; subst e3
    refine nd_aload_n hC dX6_at_0 rfl rfl ?_
    refine nd_get (ci := nX6) hC in_X6 rfl ht 0 (by decide) q376 (fun _ z => z) rfl dX6_at_1 ?_
    refine nd_instNo hC q892 (nw_nc hC [false, true, true, false, false, true, false, true, false, false] rfl) (t := .int) rfl (fun _ _ => rfl) hb dX6_at_4 ?_
    refine nd_if_eqN hC (tgt := 21) (by omega) dX6_at_7 (by decide) (fun _ => ?_) (fun hq => absurd rfl hq)
    refine nd_aload_n hC dX6_at_21 rfl rfl ?_
    refine nd_get (ci := nX6) hC in_X6 rfl ht 0 (by decide) q376 (fun _ z => z) rfl dX6_at_22 ?_
    refine nd_instNo hC q893 (nw_nc hC [false, true, true, false, true, true, true, false, false, true, false] rfl) (t := .int) rfl (fun _ _ => rfl) hb dX6_at_25 ?_
    refine nd_if_eqN hC (tgt := 42) (by omega) dX6_at_28 (by decide) (fun _ => ?_) (fun hq => absurd rfl hq)
    refine nd_aload_n hC dX6_at_42 rfl rfl ?_
    refine nd_get (ci := nX6) hC in_X6 rfl ht 0 (by decide) q376 (fun _ z => z) rfl dX6_at_43 ?_
    refine nd_instA hC q894 (t := .int) rfl (fun _ _ => rfl) hb dX6_at_46 ?_
    refine nd_if_eqN hC (tgt := 63) (by omega) dX6_at_49 (by decide) (fun hq => absurd hq (by decide)) (fun _ => ?_)
    refine nd_aload_n hC dX6_at_52 rfl rfl ?_
    refine nd_get (ci := nX6) hC in_X6 rfl ht 0 (by decide) q376 (fun _ z => z) rfl dX6_at_53 ?_
    refine nd_castA hC q894 (t := .int) rfl (fun _ _ => rfl) hb dX6_at_56 ?_
    refine nd_iload_n hC dX6_at_59 rfl ?_
    refine nd_ialoadN hC hb hk (by omega) dX6_at_60 ?_
    refine nd_i2l hC dX6_at_61 ?_
    rw [e4 k hk]
    refine nd_lreturn hC rfl (by omega) (by omega) dX6_at_62 (hK)
  · subst e2; subst e3
    refine nd_aload_n hC dX6_at_0 rfl rfl ?_
    refine nd_get (ci := nX6) hC in_X6 rfl ht 0 (by decide) q376 (fun _ z => z) rfl dX6_at_1 ?_
    refine nd_instNo hC q892 (nw_nc hC [false, true, true, false, false, true, false, true, true, true, true] rfl) (t := .long) rfl (fun _ _ => rfl) hb dX6_at_4 ?_
    refine nd_if_eqN hC (tgt := 21) (by omega) dX6_at_7 (by decide) (fun _ => ?_) (fun hq => absurd rfl hq)
    refine nd_aload_n hC dX6_at_21 rfl rfl ?_
    refine nd_get (ci := nX6) hC in_X6 rfl ht 0 (by decide) q376 (fun _ z => z) rfl dX6_at_22 ?_
    refine nd_instNo hC q893 (nw_nc hC [false, true, true, false, true, true, true, true, false, true, false] rfl) (t := .long) rfl (fun _ _ => rfl) hb dX6_at_25 ?_
    refine nd_if_eqN hC (tgt := 42) (by omega) dX6_at_28 (by decide) (fun _ => ?_) (fun hq => absurd rfl hq)
    refine nd_aload_n hC dX6_at_42 rfl rfl ?_
    refine nd_get (ci := nX6) hC in_X6 rfl ht 0 (by decide) q376 (fun _ z => z) rfl dX6_at_43 ?_
    refine nd_instNo hC q894 (nw_nc hC [false, true, true, true, true, false, false, false, false, false] rfl) (t := .long) rfl (fun _ _ => rfl) hb dX6_at_46 ?_
    refine nd_if_eqN hC (tgt := 63) (by omega) dX6_at_49 (by decide) (fun _ => ?_) (fun hq => absurd rfl hq)
    refine nd_aload_n hC dX6_at_63 rfl rfl ?_
    refine nd_get (ci := nX6) hC in_X6 rfl ht 0 (by decide) q376 (fun _ z => z) rfl dX6_at_64 ?_
    refine nd_castA hC q895 (t := .long) rfl (fun _ _ => rfl) hb dX6_at_67 ?_
    refine nd_iload_n hC dX6_at_70 rfl ?_
    refine nd_laloadN hC hb hk (by omega) dX6_at_71 ?_
    rw [e4 k hk]
    refine nd_lreturn hC rfl (by omega) (by omega) dX6_at_72 (hK)
theorem ty_size (hg : nd_OK g) {t : Nat} {q : Nat × List Int64} (hT : ty_at h t (some q)) (hl : q.2.length ≤ 30) (hK : K (.inl (some (.int (nI q.2.length)))) h) : nd_M g mX6_size d 0 0 [.ref t] h K := by
  obtain ⟨b, ht, n, a, hb, hor⟩ := hT
  refine nd_enter hg (by decide) rfl (Nat.le_of_ble_eq_true rfl) (fun X hC => ?_)
  rcases hor with ⟨e1, e2, f, e3, e4⟩ | ⟨e1, e2, f, e3, e4⟩ | ⟨e1, e2, f, e3, e4⟩ | ⟨e1, e2, f, e3, e4⟩
  · subst e2; subst e3
    refine nd_aload_n hC dX6_size_0 rfl rfl ?_
    refine nd_get (ci := nX6) hC in_X6 rfl ht 0 (by decide) q376 (fun _ z => z) rfl dX6_size_1 ?_
    refine nd_instA hC q892 (t := .byte) rfl (fun _ _ => rfl) hb dX6_size_4 ?_
    refine nd_if_eqN hC (tgt := 19) (by omega) dX6_size_7 (by decide) (fun hq => absurd hq (by decide)) (fun _ => ?_)
    refine nd_aload_n hC dX6_size_10 rfl rfl ?_
    refine nd_get (ci := nX6) hC in_X6 rfl ht 0 (by decide) q376 (fun _ z => z) rfl dX6_size_11 ?_
    refine nd_castA hC q892 (t := .byte) rfl (fun _ _ => rfl) hb dX6_size_14 ?_
    refine nd_alen hC rfl hb dX6_size_17 ?_
    refine nd_ireturn hC rfl (by first | rfl | exact nd_b_nar _) (by omega) (by omega) dX6_size_18 (hK)
  · subst e2; subst e3
    refine nd_aload_n hC dX6_size_0 rfl rfl ?_
    refine nd_get (ci := nX6) hC in_X6 rfl ht 0 (by decide) q376 (fun _ z => z) rfl dX6_size_1 ?_
    refine nd_instNo hC q892 (nw_nc hC [false, true, true, false, false, true, true, false, false, true, true] rfl) (t := .short) rfl (fun _ _ => rfl) hb dX6_size_4 ?_
    refine nd_if_eqN hC (tgt := 19) (by omega) dX6_size_7 (by decide) (fun _ => ?_) (fun hq => absurd rfl hq)
    refine nd_aload_n hC dX6_size_19 rfl rfl ?_
    refine nd_get (ci := nX6) hC in_X6 rfl ht 0 (by decide) q376 (fun _ z => z) rfl dX6_size_20 ?_
    refine nd_instA hC q893 (t := .short) rfl (fun _ _ => rfl) hb dX6_size_23 ?_
    refine nd_if_eqN hC (tgt := 38) (by omega) dX6_size_26 (by decide) (fun hq => absurd hq (by decide)) (fun _ => ?_)
    refine nd_aload_n hC dX6_size_29 rfl rfl ?_
    refine nd_get (ci := nX6) hC in_X6 rfl ht 0 (by decide) q376 (fun _ z => z) rfl dX6_size_30 ?_
    refine nd_castA hC q893 (t := .short) rfl (fun _ _ => rfl) hb dX6_size_33 ?_
    refine nd_alen hC rfl hb dX6_size_36 ?_
    refine nd_ireturn hC rfl (by first | rfl | exact nd_b_nar _) (by omega) (by omega) dX6_size_37 (hK)
  · subst e2; subst e3
    refine nd_aload_n hC dX6_size_0 rfl rfl ?_
    refine nd_get (ci := nX6) hC in_X6 rfl ht 0 (by decide) q376 (fun _ z => z) rfl dX6_size_1 ?_
    refine nd_instNo hC q892 (nw_nc hC [false, true, true, false, false, true, false, true, false, false] rfl) (t := .int) rfl (fun _ _ => rfl) hb dX6_size_4 ?_
    refine nd_if_eqN hC (tgt := 19) (by omega) dX6_size_7 (by decide) (fun _ => ?_) (fun hq => absurd rfl hq)
    refine nd_aload_n hC dX6_size_19 rfl rfl ?_
    refine nd_get (ci := nX6) hC in_X6 rfl ht 0 (by decide) q376 (fun _ z => z) rfl dX6_size_20 ?_
    refine nd_instNo hC q893 (nw_nc hC [false, true, true, false, true, true, true, false, false, true, false] rfl) (t := .int) rfl (fun _ _ => rfl) hb dX6_size_23 ?_
    refine nd_if_eqN hC (tgt := 38) (by omega) dX6_size_26 (by decide) (fun _ => ?_) (fun hq => absurd rfl hq)
    refine nd_aload_n hC dX6_size_38 rfl rfl ?_
    refine nd_get (ci := nX6) hC in_X6 rfl ht 0 (by decide) q376 (fun _ z => z) rfl dX6_size_39 ?_
    refine nd_instA hC q894 (t := .int) rfl (fun _ _ => rfl) hb dX6_size_42 ?_
    refine nd_if_eqN hC (tgt := 57) (by omega) dX6_size_45 (by decide) (fun hq => absurd hq (by decide)) (fun _ => ?_)
    refine nd_aload_n hC dX6_size_48 rfl rfl ?_
    refine nd_get (ci := nX6) hC in_X6 rfl ht 0 (by decide) q376 (fun _ z => z) rfl dX6_size_49 ?_
    refine nd_castA hC q894 (t := .int) rfl (fun _ _ => rfl) hb dX6_size_52 ?_
    refine nd_alen hC rfl hb dX6_size_55 ?_
    refine nd_ireturn hC rfl (by first | rfl | exact nd_b_nar _) (by omega) (by omega) dX6_size_56 (hK)
  · subst e2; subst e3
    refine nd_aload_n hC dX6_size_0 rfl rfl ?_
    refine nd_get (ci := nX6) hC in_X6 rfl ht 0 (by decide) q376 (fun _ z => z) rfl dX6_size_1 ?_
    refine nd_instNo hC q892 (nw_nc hC [false, true, true, false, false, true, false, true, true, true, true] rfl) (t := .long) rfl (fun _ _ => rfl) hb dX6_size_4 ?_
    refine nd_if_eqN hC (tgt := 19) (by omega) dX6_size_7 (by decide) (fun _ => ?_) (fun hq => absurd rfl hq)
    refine nd_aload_n hC dX6_size_19 rfl rfl ?_
    refine nd_get (ci := nX6) hC in_X6 rfl ht 0 (by decide) q376 (fun _ z => z) rfl dX6_size_20 ?_
    refine nd_instNo hC q893 (nw_nc hC [false, true, true, false, true, true, true, true, false, true, false] rfl) (t := .long) rfl (fun _ _ => rfl) hb dX6_size_23 ?_
    refine nd_if_eqN hC (tgt := 38) (by omega) dX6_size_26 (by decide) (fun _ => ?_) (fun hq => absurd rfl hq)
    refine nd_aload_n hC dX6_size_38 rfl rfl ?_
    refine nd_get (ci := nX6) hC in_X6 rfl ht 0 (by decide) q376 (fun _ z => z) rfl dX6_size_39 ?_
    refine nd_instNo hC q894 (nw_nc hC [false, true, true, true, true, false, false, false, false, false] rfl) (t := .long) rfl (fun _ _ => rfl) hb dX6_size_42 ?_
    refine nd_if_eqN hC (tgt := 57) (by omega) dX6_size_45 (by decide) (fun _ => ?_) (fun hq => absurd rfl hq)
    refine nd_aload_n hC dX6_size_57 rfl rfl ?_
    refine nd_get (ci := nX6) hC in_X6 rfl ht 0 (by decide) q376 (fun _ z => z) rfl dX6_size_58 ?_
    refine nd_castA hC q895 (t := .long) rfl (fun _ _ => rfl) hb dX6_size_61 ?_
    refine nd_alen hC rfl hb dX6_size_64 ?_
    refine nd_ireturn hC rfl (by first | rfl | exact nd_b_nar _) (by omega) (by omega) dX6_size_65 (hK)
end TR2

