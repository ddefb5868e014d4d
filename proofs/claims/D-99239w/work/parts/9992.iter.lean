set_option maxRecDepth 100000
/-! ===== the iterator of ArrayList ===== -/
theorem va_asgS (vm : Vm) (c : ClassId) : vm.assignable c c = true := by
  show vm.assignableAux _ c c = true
  unfold Vm.assignableAux
  simp
section IT92
variable {g : nd_G} {mm : nd_Mt} {d mc ms : Nat} {K : nd_K} {X : nd_X} {pc : Nat} {lv : List (Option Value)} {st : List Value} {h : nd_H} {cs ss : Nat}
/-- an object is put into a row of its own class -/
theorem nd_astC (hC : nd_Cx g mm X) {b n j v ty ci : Nat} {C : String} {T : u_T} {N : Nat} {f : Nat → Value} {fs : List Value} (ht : nd_ty[ty]? = some (.object C)) (hc : nd_cl[ci]? = some (C, T, N)) (hb : h[b]? = some (.inl (ty, n, .inr (.inr f)))) (hv : h[v]? = some (.inr (ci, fs))) (hj : j < n) (hn : n ≤ 2147483647) (hd : decode mm.2.1 pc = .ok (.aastore, 1)) (k : nd_W g mm d mc ms K X (pc + 1) lv st (h.set b (.inl (ty, n, .inr (.inr (va_up f j (.ref v)))))) cs ss) : nd_W g mm d mc ms K X pc lv (.ref v :: .int (nI j) :: .ref b :: st) h cs ss := by
  refine nd_aastoreR hC (ty := ty) ht rfl hb (nI_toInt (by omega)) hj (fun H hR => ?_) hd k
  obtain ⟨cv, g1, g2, g3⟩ := nd_recv (r := (C, T, N)) hC hR hv hc
  obtain ⟨kA, comp, k1, k2, k3, -⟩ := nd_ara hC ht
  obtain ⟨kE, hkE, -⟩ := Vm.findClass_spec k3
  cases g3.symm.trans k3
  exact ⟨kA, cv.cls, kE, cv, kE, k1, k2, hkE, g1, (fun q z => by rw [z] at g2; cases g2), hkE, va_asgS _ _⟩
theorem nd_getMI (hC : nd_Cx g mm X) {a : Nat} {x1 x2 : Value} {v : Int32} (hb : h[a]? = some (.inr (nJ2, [.int v, x1, x2]))) (hm : mm.1.cls = "java/util/ArrayList$Itr") (hd : decode mm.2.1 pc = .ok (.getfield 17, 3)) (kk : nd_W g mm d mc ms K X (pc + 3) lv (.int v :: st) h cs ss) : nd_W g mm d mc ms K X pc lv (.ref a :: st) h cs ss :=
  nd_get (ci := nJ2) hC in_J2 rfl hb 0 (by decide) (by rw [hm]; exact q258) (u_same (hC.hts _ q259)) rfl hd kk
end IT92
section IT93
variable {g : nd_G} {d : Nat} {K : nd_K} {h : nd_H}
theorem ni_J27 (hg : nd_OK g) {b a : Nat} {x0 x1 x2 x3 : Value} {m : Int32} {y1 y2 : Value} (hba : a ≠ b) (hb : h[b]? = some (.inr (nJ27, [x0, x1, x2, x3]))) (ha : h[a]? = some (.inr (nJ2, [.int m, y1, y2]))) (hk : K (.inl none) (h.set b (.inr (nJ27, [x0, .int (-1), .int m, .ref a])))) : nd_M g mJ27_init d 0 0 [.ref b, .ref a] h K := by
  have hlt := nd_get_lt hb
  refine nd_enter hg (by decide) rfl (Nat.le_of_ble_eq_true rfl) (fun X hC => ?_)
  refine nd_aload_n hC dJ27_init_0 rfl rfl ?_
  refine nd_aload_n hC dJ27_init_1 rfl rfl ?_
  refine nd_putF (ci := nJ27) hC in_J27 rfl hb 3 (by decide) tyJ27 tyJ27_ok (by decide +kernel) q2663 (fun _ z => z) rfl rfl rfl rfl rfl (by show 3 < 4; decide) dJ27_init_2 ?_
  refine nd_aload_n hC dJ27_init_5 rfl rfl ?_
  refine nd_objInit hC q2659 q225 q226 (by exact Nat.le_of_ble_eq_true rfl) dJ27_init_6 ?_
  refine nd_aload_n hC dJ27_init_9 rfl rfl ?_
  refine nd_iconst hC (v := -1) (by rfl) dJ27_init_10 ?_
  refine nd_put (ci := nJ27) hC in_J27 rfl (List.getElem?_set_self hlt) 1 (by decide) tyJ27 tyJ27_ok (by decide +kernel) q2661 (fun _ z => z) rfl rfl rfl (by show 1 < 4; decide) dJ27_init_11 ?_
  rw [List.set_set]
  have hb1 : (h.set b (.inr (nJ27, [x0, .int (-1), x2, .ref a])))[b]? = some (.inr (nJ27, [x0, .int (-1), x2, .ref a])) := List.getElem?_set_self hlt
  have ha1 : (h.set b (.inr (nJ27, [x0, .int (-1), x2, .ref a])))[a]? = some (.inr (nJ2, [.int m, y1, y2])) := (List.getElem?_set_ne (Ne.symm hba)).trans ha
  refine nd_aload_n hC dJ27_init_14 rfl rfl ?_
  refine nd_aload_n hC dJ27_init_15 rfl rfl ?_
  refine nd_get (ci := nJ27) hC in_J27 rfl hb1 3 (by decide) q2663 (fun _ z => z) rfl dJ27_init_16 ?_
  refine nd_getMI hC ha1 rfl dJ27_init_19 ?_
  refine nd_put (ci := nJ27) hC in_J27 rfl hb1 2 (by decide) tyJ27 tyJ27_ok (by decide +kernel) q2662 (fun _ z => z) rfl rfl rfl (by show 2 < 4; decide) dJ27_init_22 ?_
  rw [List.set_set]
  refine nd_return hC rfl (by omega) (by omega) dJ27_init_25 (hk)
theorem al_iter (hg : nd_OK g) (hd : 1 ≤ d) {a : Nat} {m : Int32} {y1 y2 : Value} (ha : h[a]? = some (.inr (nJ2, [.int m, y1, y2]))) (hk : K (.inl (some (.ref h.length))) (h ++ [.inr (nJ27, [.int (nI 0), .int (-1), .int m, .ref a])])) : nd_M g mJ2_iterator d 1 4 [.ref a] h K := by
  have hlt := nd_get_lt ha
  refine nd_enter hg (by decide) rfl (Nat.le_of_ble_eq_true rfl) (fun X hC => ?_)
  refine nd_new (ci := nJ27) hC [.int 0, .int 0, .int 0, .null] in_J27 rfl tyJ27 tyJ27_ok q2654 q2655 q218 rfl rfl (by omega) (by omega) dJ2_iterator_0 ?_
  refine nd_dup hC (by rfl) dJ2_iterator_3 ?_
  refine nd_aload_n hC dJ2_iterator_4 rfl rfl ?_
  refine nd_callI (mm2 := mJ27_init) (As := [_]) (mc2 := 0) (ms2 := 0) (d2 := d - 1) hC rfl rfl q2658 q218 q2656 q2657 rfl lmJ27_init (Nat.le_of_ble_eq_true rfl) (by omega) rfl (by exact Nat.le_of_ble_eq_true rfl) (by omega) (by omega) dJ2_iterator_5 rfl ((ni_J27 hg (b := h.length) (by omega) l_at_last ((List.getElem?_append_left hlt).trans ha) ?_))
  rw [l_set_last]
  refine nd_areturn hC rfl (by first | exact Or.inl ⟨_, rfl⟩ | exact Or.inr ⟨_, rfl⟩) (by rfl) (by omega) (by omega) dJ2_iterator_8 (hk)
theorem it_has (hg : nd_OK g) {b a k sz : Nat} {x1 x2 : Value} {m : Int32} {y1 : Value} (hk9 : k ≤ 100) (hs9 : sz ≤ 100) (hb : h[b]? = some (.inr (nJ27, [.int (nI k), x1, x2, .ref a]))) (ha : h[a]? = some (.inr (nJ2, [.int m, y1, .int (nI sz)]))) (hk : K (.inl (some (.int (nd_b (decide (k ≠ sz)))))) h) : nd_M g mJ27_hasNext d 0 0 [.ref b] h K := by
  refine nd_enter hg (by decide) rfl (Nat.le_of_ble_eq_true rfl) (fun X hC => ?_)
  refine nd_aload_n hC dJ27_hasNext_0 rfl rfl ?_
  refine nd_get (ci := nJ27) hC in_J27 rfl hb 0 (by decide) q2660 (fun _ z => z) rfl dJ27_hasNext_1 ?_
  refine nd_aload_n hC dJ27_hasNext_4 rfl rfl ?_
  refine nd_get (ci := nJ27) hC in_J27 rfl hb 3 (by decide) q2663 (fun _ z => z) rfl dJ27_hasNext_5 ?_
  refine nd_getN (ci := nJ2) hC in_J2 rfl ha 2 (by decide) q255 (fun _ z => z) rfl dJ27_hasNext_8 ?_
  first | with_reducible refine nd_icmp_eqN hC (tgt := 18) (by omega) (by omega) dJ27_hasNext_11 (by decide) (fun hq => ?_) (fun hq => ?_) | refine nd_icmp_eq hC (tgt := 18) dJ27_hasNext_11 (by decide) (fun hq => ?_) (fun hq => ?_)
  · rw [decide_eq_false (by omega)] at hk
    refine nd_iconst hC (v := nI 0) (by rfl) dJ27_hasNext_18 ?_
    refine nd_ireturn hC rfl (by first | rfl | exact nd_b_nar _) (by omega) (by omega) dJ27_hasNext_19 (hk)
  · rw [decide_eq_true (by omega)] at hk
    refine nd_iconst hC (v := nI 1) (by rfl) dJ27_hasNext_14 ?_
    refine nd_goto hC (tgt := 19) dJ27_hasNext_15 (by decide) ?_
    refine nd_ireturn hC rfl (by first | rfl | exact nd_b_nar _) (by omega) (by omega) dJ27_hasNext_19 (hk)
theorem it_chk (hg : nd_OK g) {b a : Nat} {x0 x1 : Value} {m : Int32} {y1 y2 : Value} (hb : h[b]? = some (.inr (nJ27, [x0, x1, .int m, .ref a]))) (ha : h[a]? = some (.inr (nJ2, [.int m, y1, y2]))) (hk : K (.inl none) h) : nd_M g mJ27_checkForComodification d 0 0 [.ref b] h K := by
  refine nd_enter hg (by decide) rfl (Nat.le_of_ble_eq_true rfl) (fun X hC => ?_)
  refine nd_aload_n hC dJ27_checkForComodification_0 rfl rfl ?_
  refine nd_get (ci := nJ27) hC in_J27 rfl hb 3 (by decide) q2663 (fun _ z => z) rfl dJ27_checkForComodification_1 ?_
  refine nd_getMI hC ha rfl dJ27_checkForComodification_4 ?_
  refine nd_aload_n hC dJ27_checkForComodification_7 rfl rfl ?_
  refine nd_get (ci := nJ27) hC in_J27 rfl hb 2 (by decide) q2662 (fun _ z => z) rfl dJ27_checkForComodification_8 ?_
  refine nd_icmp_eq hC (tgt := 22) dJ27_checkForComodification_11 (by decide) (fun _ => ?_) (fun hq => absurd rfl hq)
  refine nd_return hC rfl (by omega) (by omega) dJ27_checkForComodification_22 (hk)
theorem lkJ27_31 : GoodIn lw_all (wsV RJ27 31 RJ27 mJ27_checkForComodification.1 (ws_ mJ27_checkForComodification.1 mJ27_checkForComodification.2.1 mJ27_checkForComodification.2.2.1 mJ27_checkForComodification.2.2.2.1)) := lw_V q2692 q2693 q2694 q218 q2695
theorem it_next (hg : nd_OK g) (hd : 1 ≤ d) {b a ed k sz : Nat} {x1 : Value} {m : Int32} {gf : Nat → Value} (hab : a ≠ b) (heb : ed ≠ b) (hks : k < sz) (hs9 : sz ≤ 10) (hb : h[b]? = some (.inr (nJ27, [.int (nI k), x1, .int m, .ref a]))) (ha : h[a]? = some (.inr (nJ2, [.int m, .ref ed, .int (nI sz)]))) (he : h[ed]? = some (.inl (10, 10, .inr (.inr gf)))) (hrf : nd_rf (gf k) = true) (hk : K (.inl (some (gf k))) (h.set b (.inr (nJ27, [.int (nI (k + 1)), .int (nI k), .int m, .ref a])))) : nd_M g mJ27_next d 0 0 [.ref b] h K := by
  have hlt := nd_get_lt hb
  refine nd_enter hg (by decide) rfl (Nat.le_of_ble_eq_true rfl) (fun X hC => ?_)
  refine nd_aload_n hC dJ27_next_0 rfl rfl ?_
  refine nd_callV (mm2 := mJ27_checkForComodification) (As := []) (mc2 := 0) (ms2 := 0) (d2 := d - 1) hC rfl lkJ27_31 ⟨rfl, lmJ27_checkForComodification⟩ (hb) rfl (Nat.le_of_ble_eq_true rfl) (by omega) rfl (by exact Nat.le_of_ble_eq_true rfl) (by omega) (by omega) dJ27_next_1 rfl ((it_chk hg hb ha ?_))
  refine nd_aload_n hC dJ27_next_4 rfl rfl ?_
  refine nd_get (ci := nJ27) hC in_J27 rfl hb 0 (by decide) q2660 (fun _ z => z) rfl dJ27_next_5 ?_
  refine nd_istore_n hC dJ27_next_8 (Nat.le_of_ble_eq_true rfl) ?_
  refine nd_iload_n hC dJ27_next_9 rfl ?_
  refine nd_aload_n hC dJ27_next_10 rfl rfl ?_
  refine nd_get (ci := nJ27) hC in_J27 rfl hb 3 (by decide) q2663 (fun _ z => z) rfl dJ27_next_11 ?_
  refine nd_getN (ci := nJ2) hC in_J2 rfl ha 2 (by decide) q255 (fun _ z => z) rfl dJ27_next_14 ?_
  first | with_reducible refine nd_icmp_ltN hC (tgt := 28) (by omega) (by omega) dJ27_next_17 (by decide) (fun hq => ?_) (fun hq => ?_) | refine nd_icmp_lt hC (tgt := 28) dJ27_next_17 (by decide) (fun hq => ?_) (fun hq => ?_)
  rotate_left
  · omega
  refine nd_aload_n hC dJ27_next_28 rfl rfl ?_
  refine nd_get (ci := nJ27) hC in_J27 rfl hb 3 (by decide) q2663 (fun _ z => z) rfl dJ27_next_29 ?_
  refine nd_get (ci := nJ2) hC in_J2 rfl ha 1 (by decide) q254 (fun _ z => z) rfl dJ27_next_32 ?_
  refine nd_astore_n hC dJ27_next_35 (Nat.le_of_ble_eq_true rfl) rfl ?_
  refine nd_iload_n hC dJ27_next_36 rfl ?_
  refine nd_aload_n hC dJ27_next_37 rfl rfl ?_
  refine nd_alen hC rfl he dJ27_next_38 ?_
  first | with_reducible refine nd_icmp_ltN hC (tgt := 50) (by omega) (by omega) dJ27_next_39 (by decide) (fun hq2 => ?_) (fun hq2 => ?_) | refine nd_icmp_lt hC (tgt := 50) dJ27_next_39 (by decide) (fun hq2 => ?_) (fun hq2 => ?_)
  rotate_left
  · omega
  refine nd_aload_n hC dJ27_next_50 rfl rfl ?_
  refine nd_iload_n hC dJ27_next_51 rfl ?_
  refine nd_iconst hC (v := nI 1) (by rfl) dJ27_next_52 ?_
  first | with_reducible refine nd_iaddN hC dJ27_next_53 ?_ | refine nd_iadd hC dJ27_next_53 ?_
  refine nd_put (ci := nJ27) hC in_J27 rfl hb 0 (by decide) tyJ27 tyJ27_ok (by decide +kernel) q2660 (fun _ z => z) rfl rfl rfl (by show 0 < 4; decide) dJ27_next_54 ?_
  refine nd_aload_n hC dJ27_next_57 rfl rfl ?_
  refine nd_aload_n hC dJ27_next_58 rfl rfl ?_
  refine nd_iload_n hC dJ27_next_59 rfl ?_
  refine nd_dup_x1 hC (by rfl) (by rfl) dJ27_next_60 ?_
  refine nd_put (ci := nJ27) hC in_J27 rfl (List.getElem?_set_self hlt) 1 (by decide) tyJ27 tyJ27_ok (by decide +kernel) q2661 (fun _ z => z) rfl rfl rfl (by show 1 < 4; decide) dJ27_next_61 ?_
  rw [List.set_set]
  refine nd_aaloadN hC rfl rfl ((List.getElem?_set_ne (Ne.symm heb)).trans he) (by omega) (by omega) dJ27_next_64 ?_
  exact nd_areturn hC rfl (Or.inl ⟨_, rfl⟩) hrf (by omega) (by omega) dJ27_next_65 hk
theorem lfX1_81 : GoodIn lw_all (va_wsF "NapkinDeeds" 81 "java/util/ArrayList$Itr" ⟨"java/util/Iterator", "hasNext", "()Z"⟩ mJ27_hasNext.1 (ws_ mJ27_hasNext.1 mJ27_hasNext.2.1 mJ27_hasNext.2.2.1 mJ27_hasNext.2.2.2.1)) := lw_F q2674 q2678 q2680 q218 q2682
theorem lgJ27_hasNext (hg : nd_OK g) : va_Fw "java/util/ArrayList$Itr" ⟨"java/util/Iterator", "hasNext", "()Z"⟩ mJ27_hasNext.1 (nd_s g) := nd_Fw hg q2676 q2675 q2681 q2679 q2677
theorem lfX1_87 : GoodIn lw_all (va_wsF "NapkinDeeds" 87 "java/util/ArrayList$Itr" ⟨"java/util/Iterator", "next", "()Ljava/lang/Object;"⟩ mJ27_next.1 (ws_ mJ27_next.1 mJ27_next.2.1 mJ27_next.2.2.1 mJ27_next.2.2.2.1)) := lw_F q2684 q2687 q2689 q218 q2691
theorem lgJ27_next (hg : nd_OK g) : va_Fw "java/util/ArrayList$Itr" ⟨"java/util/Iterator", "next", "()Ljava/lang/Object;"⟩ mJ27_next.1 (nd_s g) := nd_Fw hg q2686 q2685 q2690 q2688 q2677
/-- a list of states with its row's place (0: none yet) -/
def cw_lr (o : Nat → Nat) (h : nd_H) (dl τ : Nat) (ds : List Nat) (er : Nat) : Prop := (ds = [] ∧ er = 0 ∧ ∃ m, h[dl]? = some (.inr (nJ2, [.int m, nd_f 201, .int (nI 0)]))) ∨ (∃ m gf, o er = τ ∧ 123 ≤ er ∧ h[dl]? = some (.inr (nJ2, [.int m, .ref er, .int (nI ds.length)])) ∧ h[er]? = some (.inl (10, 10, .inr (.inr gf))) ∧ (∀ i, i < 10 → nd_rf (gf i) = true) ∧ ∀ i, i < ds.length → gf i = .ref (ds.getD i 0))
theorem cw_l.r {o : Nat → Nat} {h : nd_H} {dl τ : Nat} {ds : List Nat} (H : cw_l o h dl τ ds) : ∃ er, cw_lr o h dl τ ds er := by
  rcases H with ⟨e1, m, e2⟩ | ⟨m, ed, gf, e1, e2, e3, e4, e5, e6⟩
  · exact ⟨0, Or.inl ⟨e1, rfl, m, e2⟩⟩
  · exact ⟨ed, Or.inr ⟨m, gf, e1, e2, e3, e4, e5, e6⟩⟩
theorem cw_lr.l {o : Nat → Nat} {h : nd_H} {dl τ er : Nat} {ds : List Nat} (H : cw_lr o h dl τ ds er) : cw_l o h dl τ ds := by
  rcases H with ⟨e1, -, m, e2⟩ | ⟨m, gf, e1, e2, e3, e4, e5, e6⟩
  · exact Or.inl ⟨e1, m, e2⟩
  · exact Or.inr ⟨m, er, gf, e1, e2, e3, e4, e5, e6⟩
theorem cw_lr.kp {o o2 : Nat → Nat} {h h2 : nd_H} {dl τ er : Nat} {ds : List Nat} (H : cw_lr o h dl τ ds er) (hoo : er ≠ 0 → o er = τ → o2 er = o er) (fd : ∀ c, h[dl]? = some c → h2[dl]? = some c) (f : ∀ c, er ≠ 0 → o er = τ → h[er]? = some c → h2[er]? = some c) : cw_lr o2 h2 dl τ ds er := by
  rcases H with ⟨a1, a0, m, a2⟩ | ⟨m, gf, a1, a2, a3, a4, a5, a6⟩
  · exact Or.inl ⟨a1, a0, m, fd _ a2⟩
  · exact Or.inr ⟨m, gf, by rw [hoo (by omega) a1]; exact a1, a2, fd _ a3, f _ (by omega) a1 a4, a5, a6⟩
theorem cw_lr.at {o : Nat → Nat} {h : nd_H} {dl τ er : Nat} {ds : List Nat} (H : cw_lr o h dl τ ds er) : ∃ m e z, h[dl]? = some (.inr (nJ2, [.int m, e, .int z])) := by
  rcases H with ⟨-, -, m, e⟩ | ⟨m, gf, -, -, e, -⟩
  · exact ⟨_, _, _, e⟩
  · exact ⟨_, _, _, e⟩
/-- .. is cleared -/
theorem cl_clear (hg : nd_OK g) {o : Nat → Nat} {dl τ er : Nat} {ds : List Nat} (h10 : ds.length ≤ 10) (H : cw_lr o h dl τ ds er) (hk : ∀ h2, cw_lr o h2 dl τ [] er → h2.length = h.length → (∀ a, a ≠ dl → (er = 0 ∨ a ≠ er) → h2[a]? = h[a]?) → K (.inl none) h2) : nd_M g mJ2_clear d 0 0 [.ref dl] h K := by
  rcases H with ⟨e1, e0, m, e2⟩ | ⟨m, gf, e1, e2, e3, e4, e5, e6⟩
  · exact al_clear0 hg e2 (fun h2 m2 l2 f2 r2 => hk h2 (Or.inl ⟨rfl, e0, m2, r2⟩) l2 (fun a z _ => f2 a z))
  · exact al_clear1 hg e3 e4 h10 (fun h2 m2 gf2 l2 f2 r2 w2 rf => hk h2 (Or.inr ⟨m2, gf2, e1, e2, r2, w2, fun i hi => rf i (e5 i hi), fun i hi => absurd hi (Nat.not_lt_zero _)⟩) l2 (fun a z1 z2 => f2 a z1 (by omega)))
/-- .. takes one more -/
theorem cl_add (hg : nd_OK g) (hd : 3 ≤ d) {o : Nat → Nat} {dl τ D er : Nat} {ds : List Nat} {fs : List Value} (h10 : ds.length < 10) (H : cw_lr o h dl τ ds er) (hD : h[D]? = some (.inr (nX2, fs))) (hl : 123 ≤ h.length) (hol : ∀ a, o a ≠ 0 → a < h.length) (hk : ∀ h2 o2 er2, cw_lr o2 h2 dl τ (ds ++ [D]) er2 → (er2 = er ∨ (er = 0 ∧ h.length ≤ er2)) → h.length ≤ h2.length → (∀ a, a < h.length → o2 a = o a) → (∀ a, o2 a ≠ 0 → a < h2.length ∧ (a < h.length ∨ 123 ≤ a)) → (∀ a, a < h.length → a ≠ dl → (er = 0 ∨ a ≠ er) → h2[a]? = h[a]?) → K (.inl (some (.int (nI 1)))) h2) : nd_M g mJ2_add d 1 10 [.ref dl, .ref D] h K := by
  rcases H with ⟨e1, e0, m, e2⟩ | ⟨m, gf, e1, e2, e3, e4, e5, e6⟩
  · subst e1
    refine al_add0 hg (by omega) e2 hD (fun h2 m2 l2 f2 r2 w2 => hk h2 (ow o h.length 1 τ) h.length (Or.inr ⟨m2, _, by unfold ow; rw [if_pos (by omega)], hl, r2, w2, fun i hi => ?_, fun i hi => ?_⟩) (Or.inr ⟨e0, Nat.le_refl _⟩) (by omega) (fun a ha => by unfold ow; rw [if_neg (by omega)]) (fun a ha => ?_) (fun a ha z1 _ => f2 a z1 ha))
    · by_cases z : i = 0
      · subst z; rw [va_up_s]; rfl
      · rw [va_up_n _ _ z]; rfl
    · have z : i = 0 := by
        have : i < 1 := hi
        omega
      subst z; rw [va_up_s]; rfl
    · unfold ow at ha
      by_cases z : h.length ≤ a ∧ a < h.length + 1
      · omega
      · rw [if_neg z] at ha
        have := hol a ha
        omega
  · refine al_add1 hg (by omega) e3 e4 hD h10 (fun h2 m2 l2 f2 r2 w2 => hk h2 o er (Or.inr ⟨m2, _, e1, e2, by rw [List.length_append]; exact r2, w2, fun i hi => ?_, fun i hi => ?_⟩) (Or.inl rfl) (by omega) (fun _ _ => rfl) (fun a ha => by have := hol a ha; omega) (fun a ha z1 z2 => f2 a z1 (by omega)))
    · by_cases z : i = ds.length
      · subst z; rw [va_up_s]; rfl
      · rw [va_up_n _ _ z]; exact e5 i hi
    · rw [List.length_append] at hi
      rw [gd_app hi]
      by_cases z : i = ds.length
      · subst z; rw [va_up_s, if_pos rfl]
      · rw [va_up_n _ _ z, if_neg z]; exact e6 i (by have : i < ds.length + 1 := hi; omega)
end IT93

