set_option maxRecDepth 100000
/-! ===== ArrayLists of States: add, remove ===== -/
section CP62
variable {g : nd_G} {mm : nd_Mt} {d mc ms : Nat} {K : nd_K} {X : nd_X} {pc : Nat} {lv : List (Option Value)} {st : List Value} {h : nd_H} {cs ss : Nat}
theorem nd_alen0 (hC : nd_Cx g mm X) (hd : decode mm.2.1 pc = .ok (.arraylength, 1)) (k : nd_W g mm d mc ms K X (pc + 1) lv (.int (nI 0) :: st) h cs ss) : nd_W g mm d mc ms K X pc lv (.float 201 :: st) h cs ss := by
  intro H ls locs hl hR hS
  have k1 := k H ls locs hl hR hS
  obtain ⟨e2, fT⟩ := hC.fo.2.2.1
  have ev : nd_v g (.float 201) = .ref (nd_sa g 201) := e2
  rw [List.map_cons, ev]
  exact va_tlen hC.1 hC.2.1 ((va_T.moved hC.al fT).kept (nd_frn hC hR hS)) hS (v := nI 0) rfl hd k1
theorem nd_acmp_eq0 (hC : nd_Cx g mm X) {off : Int} {tgt : Nat} (hd : decode mm.2.1 pc = .ok (.if_acmp .eq off, 3)) (ht : (pc : Int) + off = (tgt : Int)) (k : nd_W g mm d mc ms K X tgt lv st h cs ss) : nd_W g mm d mc ms K X pc lv (.float 201 :: .float 201 :: st) h cs ss := by
  intro H ls locs hl hR hS
  obtain ⟨e2, fT⟩ := hC.fo.2.2.1
  have ev : nd_v g (.float 201) = .ref (nd_sa g 201) := e2
  rw [List.map_cons, List.map_cons, ev]
  exact lv_acmp_eq (rx := some (nd_sa g 201)) (ry := some (nd_sa g 201)) hC.1 hC.2.1 hd ht (fun _ => k H ls locs hl hR hS) (fun z => absurd rfl z)
theorem al_putM (hC : nd_Cx g mm X) {a : Nat} {x0 x1 x2 : Value} {v : Int32} (hb : h[a]? = some (.inr (nJ2, [x0, x1, x2]))) (hm : mm.1.cls = "java/util/ArrayList") (hd : decode mm.2.1 pc = .ok (.putfield 63, 3)) (kk : nd_W g mm d mc ms K X (pc + 3) lv st (h.set a (.inr (nJ2, [.int v, x1, x2]))) cs ss) : nd_W g mm d mc ms K X pc lv (.int v :: .ref a :: st) h cs ss :=
  nd_put (ci := nJ2) hC in_J2 rfl hb 0 (by decide) tyJ2 tyJ2_ok (by decide +kernel) (by rw [hm]; exact q260) (u_same (hC.hts _ q259)) rfl rfl rfl (by show 0 < 3; decide) hd kk
theorem al_getM (hC : nd_Cx g mm X) {a : Nat} {x1 x2 : Value} {v : Int32} (hb : h[a]? = some (.inr (nJ2, [.int v, x1, x2]))) (hm : mm.1.cls = "java/util/ArrayList") (hd : decode mm.2.1 pc = .ok (.getfield 63, 3)) (kk : nd_W g mm d mc ms K X (pc + 3) lv (.int v :: st) h cs ss) : nd_W g mm d mc ms K X pc lv (.ref a :: st) h cs ss :=
  nd_get (ci := nJ2) hC in_J2 rfl hb 0 (by decide) (by rw [hm]; exact q260) (u_same (hC.hts _ q259)) rfl hd kk
theorem al_putE (hC : nd_Cx g mm X) {a v : Nat} {x0 x1 x2 : Value} (hb : h[a]? = some (.inr (nJ2, [x0, x1, x2]))) (hm : mm.1.cls = "java/util/ArrayList") (hd : decode mm.2.1 pc = .ok (.putfield 9, 3)) (kk : nd_W g mm d mc ms K X (pc + 3) lv st (h.set a (.inr (nJ2, [x0, .ref v, x2]))) cs ss) : nd_W g mm d mc ms K X pc lv (.ref v :: .ref a :: st) h cs ss :=
  nd_put (ci := nJ2) hC in_J2 rfl hb 1 (by decide) tyJ2 tyJ2_ok (by decide +kernel) (by rw [hm]; exact q253) (fun _ z => z) rfl rfl rfl (by show 1 < 3; decide) hd kk
theorem al_putZ (hC : nd_Cx g mm X) {a : Nat} {x0 x1 x2 : Value} {v : Int32} (hb : h[a]? = some (.inr (nJ2, [x0, x1, x2]))) (hm : mm.1.cls = "java/util/ArrayList") (hd : decode mm.2.1 pc = .ok (.putfield 48, 3)) (kk : nd_W g mm d mc ms K X (pc + 3) lv st (h.set a (.inr (nJ2, [x0, x1, .int v]))) cs ss) : nd_W g mm d mc ms K X pc lv (.int v :: .ref a :: st) h cs ss :=
  nd_put (ci := nJ2) hC in_J2 rfl hb 2 (by decide) tyJ2 tyJ2_ok (by decide +kernel) (by rw [hm]; exact q256) (fun _ z => z) rfl rfl rfl (by show 2 < 3; decide) hd kk
theorem al_grow2 (hg : nd_OK g) {a : Nat} {m : Int32} (hb : h[a]? = some (.inr (nJ2, [.int m, .float 201, .int (nI 0)]))) (hk : K (.inl (some (.ref h.length))) ((h ++ [(.inl (10, 10, .inr (.inr (fun _ => .null))) : nd_C)]).set a (.inr (nJ2, [.int m, .ref h.length, .int (nI 0)])))) : nd_M g mJ2_grow_2 d 1 10 [.ref a, .int (nI 1)] h K := by
  have hl := nd_get_lt hb
  refine nd_enter hg (by decide) rfl (Nat.le_of_ble_eq_true rfl) (fun X hC => ?_)
  refine nd_aload_n hC dJ2_grow_2_0 rfl rfl ?_
  refine nd_get (ci := nJ2) hC in_J2 rfl hb 1 (by decide) q253 (fun _ z => z) rfl dJ2_grow_2_1 ?_
  refine nd_alen0 hC dJ2_grow_2_4 ?_
  refine nd_istore_n hC dJ2_grow_2_5 (Nat.le_of_ble_eq_true rfl) ?_
  refine nd_iload_n hC dJ2_grow_2_6 rfl ?_
  refine nd_if_gt hC (tgt := 20) dJ2_grow_2_7 (by decide) (fun q => absurd q (by decide)) (fun _ => ?_)
  refine nd_aload_n hC dJ2_grow_2_10 rfl rfl ?_
  refine nd_get (ci := nJ2) hC in_J2 rfl hb 1 (by decide) q253 (fun _ z => z) rfl dJ2_grow_2_11 ?_
  refine nd_gets hC (r := ("java/util/ArrayList", "DEFAULTCAPACITY_EMPTY_ELEMENTDATA", "[Ljava/lang/Object;", .float 201)) (List.mem_of_getElem? (i := 2) rfl) q251 dJ2_grow_2_14 ?_
  refine nd_acmp_eq0 hC (tgt := 45) dJ2_grow_2_17 (by decide) ?_
  refine nd_aload_n hC dJ2_grow_2_45 rfl rfl ?_
  refine nd_bipush hC (v := nI 10) (by rfl) dJ2_grow_2_46 ?_
  refine nd_iload_n hC dJ2_grow_2_48 rfl ?_
  first | ((with_reducible refine nd_tst2 ?_); refine nd_mmaxN hC (by omega) (by omega) q748 (by omega) (by omega) (by exact Nat.le_of_ble_eq_true rfl) dJ2_grow_2_49 ?_) | refine nd_mmax hC q748 (by omega) (by omega) (by exact Nat.le_of_ble_eq_true rfl) dJ2_grow_2_49 ?_
  rw [show max 10 1 = 10 from rfl]
  refine nd_anew hC (C := "java/lang/Object") (ty := 10) (N := 10) q749 q742 rfl (nI_toInt (by omega)) (by decide) (by omega) (by omega) dJ2_grow_2_52 ?_
  refine nd_dup_x1 hC (by rfl) (by rfl) dJ2_grow_2_55 ?_
  have hb2 : (h ++ [(.inl (10, 10, .inr (.inr (fun _ => .null))) : nd_C)])[a]? = some (.inr (nJ2, [.int m, .float 201, .int (nI 0)])) := (List.getElem?_append_left hl).trans hb
  refine al_putE hC hb2 rfl dJ2_grow_2_56 ?_
  refine nd_areturn hC rfl (by first | exact Or.inl ⟨_, rfl⟩ | exact Or.inr ⟨_, rfl⟩) (by rfl) (by omega) (by omega) dJ2_grow_2_59 (hk)
theorem al_grow (hg : nd_OK g) (hd : 1 ≤ d) {a : Nat} {m : Int32} (hb : h[a]? = some (.inr (nJ2, [.int m, .float 201, .int (nI 0)]))) (hk : K (.inl (some (.ref h.length))) ((h ++ [(.inl (10, 10, .inr (.inr (fun _ => .null))) : nd_C)]).set a (.inr (nJ2, [.int m, .ref h.length, .int (nI 0)])))) : nd_M g mJ2_grow d 1 10 [.ref a] h K := by
  refine nd_enter hg (by decide) rfl (Nat.le_of_ble_eq_true rfl) (fun X hC => ?_)
  refine nd_aload_n hC dJ2_grow_0 rfl rfl ?_
  refine nd_aload_n hC dJ2_grow_1 rfl rfl ?_
  refine nd_get (ci := nJ2) hC in_J2 rfl hb 2 (by decide) q256 (fun _ z => z) rfl dJ2_grow_2 ?_
  refine nd_iconst hC (v := nI 1) (by rfl) dJ2_grow_5 ?_
  first | with_reducible refine nd_iaddN hC dJ2_grow_6 ?_ | refine nd_iadd hC dJ2_grow_6 ?_
  refine nd_callV (mm2 := mJ2_grow_2) (As := [_]) (mc2 := 1) (ms2 := 10) (d2 := d - 1) hC rfl lkJ2_69 ⟨rfl, lmJ2_grow_2⟩ (hb) rfl (Nat.le_of_ble_eq_true rfl) (by omega) rfl (by exact Nat.le_of_ble_eq_true rfl) (by omega) (by omega) dJ2_grow_7 rfl ((al_grow2 hg hb ?_))
  refine nd_areturn hC rfl (by first | exact Or.inl ⟨_, rfl⟩ | exact Or.inr ⟨_, rfl⟩) (by rfl) (by omega) (by omega) dJ2_grow_10 (hk)
theorem al_addR (hg : nd_OK g) {a ed sz v : Nat} {m : Int32} {gf : Nat → Value} {fs : List Value} (hb : h[a]? = some (.inr (nJ2, [.int m, .ref ed, .int (nI sz)]))) (he : h[ed]? = some (.inl (10, 10, .inr (.inr gf)))) (hv : h[v]? = some (.inr (nX2, fs))) (hsz : sz < 10) (hk : K (.inl none) ((h.set ed (.inl (10, 10, .inr (.inr (va_up gf sz (.ref v)))))).set a (.inr (nJ2, [.int m, .ref ed, .int (nI (sz + 1))])))) : nd_M g mJ2_add_2 d 1 10 [.ref a, .ref v, .ref ed, .int (nI sz)] h K := by
  have hne : a ≠ ed := fun z => by rw [z, he] at hb; cases hb
  refine nd_enter hg (by decide) rfl (Nat.le_of_ble_eq_true rfl) (fun X hC => ?_)
  refine nd_iload_n hC dJ2_add_2_0 rfl ?_
  refine nd_aload_n hC dJ2_add_2_1 rfl rfl ?_
  refine nd_alen hC rfl he dJ2_add_2_2 ?_
  first | with_reducible refine nd_icmp_neN hC (tgt := 11) (by omega) (by omega) dJ2_add_2_3 (by decide) (fun hq => ?_) (fun hq => ?_) | refine nd_icmp_ne hC (tgt := 11) dJ2_add_2_3 (by decide) (fun hq => ?_) (fun hq => ?_)
  · refine nd_aload_n hC dJ2_add_2_11 rfl rfl ?_
    refine nd_iload_n hC dJ2_add_2_12 rfl ?_
    refine nd_aload_n hC dJ2_add_2_13 rfl rfl ?_
    refine nd_astO hC he hv hsz (by omega) dJ2_add_2_14 ?_
    refine nd_aload_n hC dJ2_add_2_15 rfl rfl ?_
    refine nd_iload_n hC dJ2_add_2_16 rfl ?_
    refine nd_iconst hC (v := nI 1) (by rfl) dJ2_add_2_17 ?_
    first | with_reducible refine nd_iaddN hC dJ2_add_2_18 ?_ | refine nd_iadd hC dJ2_add_2_18 ?_
    refine al_putZ hC ((List.getElem?_set_ne (Ne.symm hne)).trans hb) rfl dJ2_add_2_19 ?_
    refine nd_return hC rfl (by omega) (by omega) dJ2_add_2_22 (hk)
  · omega
theorem al_addE (hg : nd_OK g) (hd : 2 ≤ d) {a v : Nat} {m : Int32} {fs : List Value} (hb : h[a]? = some (.inr (nJ2, [.int m, .float 201, .int (nI 0)]))) (hv : h[v]? = some (.inr (nX2, fs))) (hk : K (.inl none) ((h ++ [(.inl (10, 10, .inr (.inr (va_up (fun _ => .null) 0 (.ref v)))) : nd_C)]).set a (.inr (nJ2, [.int m, .ref h.length, .int (nI 1)])))) : nd_M g mJ2_add_2 d 1 10 [.ref a, .ref v, .float 201, .int (nI 0)] h K := by
  have hla := nd_get_lt hb
  have hlv := nd_get_lt hv
  have hva : v ≠ a := fun z => by rw [z, hb] at hv; cases hv
  refine nd_enter hg (by decide) rfl (Nat.le_of_ble_eq_true rfl) (fun X hC => ?_)
  refine nd_iload_n hC dJ2_add_2_0 rfl ?_
  refine nd_aload_n hC dJ2_add_2_1 rfl rfl ?_
  refine nd_alen0 hC dJ2_add_2_2 ?_
  first | with_reducible refine nd_icmp_neN hC (tgt := 11) (by omega) (by omega) dJ2_add_2_3 (by decide) (fun hq => ?_) (fun hq => ?_) | refine nd_icmp_ne hC (tgt := 11) dJ2_add_2_3 (by decide) (fun hq => ?_) (fun hq => ?_)
  · exact absurd rfl hq
  · refine nd_aload_n hC dJ2_add_2_6 rfl rfl ?_
    refine nd_callV (mm2 := mJ2_grow) (As := []) (mc2 := 1) (ms2 := 10) (d2 := d - 1) hC rfl lkJ2_129 ⟨rfl, lmJ2_grow⟩ (hb) rfl (Nat.le_of_ble_eq_true rfl) (by omega) rfl (by exact Nat.le_of_ble_eq_true rfl) (by omega) (by omega) dJ2_add_2_7 rfl ((al_grow hg (by omega) hb ?_))
    refine nd_astore_n hC dJ2_add_2_10 (Nat.le_of_ble_eq_true rfl) rfl ?_
    refine nd_aload_n hC dJ2_add_2_11 rfl rfl ?_
    refine nd_iload_n hC dJ2_add_2_12 rfl ?_
    refine nd_aload_n hC dJ2_add_2_13 rfl rfl ?_
    have hL : ((h ++ [(.inl (10, 10, .inr (.inr (fun _ => .null))) : nd_C)]).set a (.inr (nJ2, [.int m, .ref h.length, .int (nI 0)])))[h.length]? = some (.inl (10, 10, .inr (.inr (fun _ => .null)))) := by
      rw [List.getElem?_set_ne (by omega)]; simp
    have hV : ((h ++ [(.inl (10, 10, .inr (.inr (fun _ => .null))) : nd_C)]).set a (.inr (nJ2, [.int m, .ref h.length, .int (nI 0)])))[v]? = some (.inr (nX2, fs)) := by
      rw [List.getElem?_set_ne (Ne.symm hva)]; exact (List.getElem?_append_left hlv).trans hv
    refine nd_astO (j := 0) (n := 10) hC hL hV (by omega) (by omega) dJ2_add_2_14 ?_
    refine nd_aload_n hC dJ2_add_2_15 rfl rfl ?_
    refine nd_iload_n hC dJ2_add_2_16 rfl ?_
    refine nd_iconst hC (v := nI 1) (by rfl) dJ2_add_2_17 ?_
    first | with_reducible refine nd_iaddN hC dJ2_add_2_18 ?_ | refine nd_iadd hC dJ2_add_2_18 ?_
    have hA : (((h ++ [(.inl (10, 10, .inr (.inr (fun _ => .null))) : nd_C)]).set a (.inr (nJ2, [.int m, .ref h.length, .int (nI 0)]))).set h.length (.inl (10, 10, .inr (.inr (va_up (fun _ => .null) 0 (.ref v))))))[a]? = some (.inr (nJ2, [.int m, .ref h.length, .int (nI 0)])) := by
      rw [List.getElem?_set_ne (by omega)]; exact List.getElem?_set_self (by rw [List.length_append]; omega)
    refine al_putZ hC hA rfl dJ2_add_2_19 ?_
    have e : (((h ++ [(.inl (10, 10, .inr (.inr (fun _ => .null))) : nd_C)]).set a (.inr (nJ2, [.int m, .ref h.length, .int (nI 0)]))).set h.length (.inl (10, 10, .inr (.inr (va_up (fun _ => .null) 0 (.ref v)))))).set a (.inr (nJ2, [.int m, .ref h.length, .int (nI (0 + 1))])) = ((h ++ [(.inl (10, 10, .inr (.inr (va_up (fun _ => .null) 0 (.ref v)))) : nd_C)])).set a (.inr (nJ2, [.int m, .ref h.length, .int (nI 1)])) := by
      rw [List.set_comm _ _ (show a ≠ h.length by omega), List.set_set, List.set_append_right _ _ (Nat.le_refl _), Nat.sub_self]
      rfl
    rw [e]
    refine nd_return hC rfl (by omega) (by omega) dJ2_add_2_22 (hk)
theorem al_add1 (hg : nd_OK g) (hd : 1 ≤ d) {a ed sz v : Nat} {m : Int32} {gf : Nat → Value} {fs : List Value} (hb : h[a]? = some (.inr (nJ2, [.int m, .ref ed, .int (nI sz)]))) (he : h[ed]? = some (.inl (10, 10, .inr (.inr gf)))) (hv : h[v]? = some (.inr (nX2, fs))) (hsz : sz < 10) (hk : ∀ h2 m2, h2.length = h.length → (∀ b, b ≠ a → b ≠ ed → h2[b]? = h[b]?) → h2[a]? = some (.inr (nJ2, [.int m2, .ref ed, .int (nI (sz + 1))])) → h2[ed]? = some (.inl (10, 10, .inr (.inr (va_up gf sz (.ref v))))) → K (.inl (some (.int (nI 1)))) h2) : nd_M g mJ2_add d 1 10 [.ref a, .ref v] h K := by
  have hne : a ≠ ed := fun z => by rw [z, he] at hb; cases hb
  have hva : v ≠ a := fun z => by rw [z, hb] at hv; cases hv
  have hla := nd_get_lt hb
  have hle := nd_get_lt he
  refine nd_enter hg (by decide) rfl (Nat.le_of_ble_eq_true rfl) (fun X hC => ?_)
  refine nd_aload_n hC dJ2_add_0 rfl rfl ?_
  refine nd_dup hC (by rfl) dJ2_add_1 ?_
  refine al_getM hC hb rfl dJ2_add_2 ?_
  refine nd_iconst hC (v := nI 1) (by rfl) dJ2_add_5 ?_
  refine nd_iadd hC dJ2_add_6 ?_
  refine al_putM hC hb rfl dJ2_add_7 ?_
  generalize e1 : h.set a (.inr (nJ2, [.int (m + nI 1), .ref ed, .int (nI sz)])) = h1
  have hb1 : h1[a]? = some (.inr (nJ2, [.int (m + nI 1), .ref ed, .int (nI sz)])) := by rw [← e1]; exact List.getElem?_set_self hla
  have g1 : ∀ b, b ≠ a → h1[b]? = h[b]? := fun b hz => by rw [← e1]; exact List.getElem?_set_ne (Ne.symm hz)
  have l1 : h1.length = h.length := by rw [← e1]; exact List.length_set
  refine nd_aload_n hC dJ2_add_10 rfl rfl ?_
  refine nd_aload_n hC dJ2_add_11 rfl rfl ?_
  refine nd_aload_n hC dJ2_add_12 rfl rfl ?_
  refine nd_get (ci := nJ2) hC in_J2 rfl hb1 1 (by decide) q253 (fun _ z => z) rfl dJ2_add_13 ?_
  refine nd_aload_n hC dJ2_add_16 rfl rfl ?_
  refine nd_get (ci := nJ2) hC in_J2 rfl hb1 2 (by decide) q256 (fun _ z => z) rfl dJ2_add_17 ?_
  refine nd_callV (mm2 := mJ2_add_2) (As := [_, _, _]) (mc2 := 1) (ms2 := 10) (d2 := d - 1) hC rfl lkJ2_131 ⟨rfl, lmJ2_add_2⟩ (hb1) rfl (Nat.le_of_ble_eq_true rfl) (by omega) rfl (by exact Nat.le_of_ble_eq_true rfl) (by omega) (by omega) dJ2_add_20 rfl ((al_addR hg hb1 ((g1 _ (Ne.symm hne)).trans he) ((g1 _ hva).trans hv) hsz ?_))
  have R := hk ((h1.set ed (.inl (10, 10, .inr (.inr (va_up gf sz (.ref v)))))).set a (.inr (nJ2, [.int (m + nI 1), .ref ed, .int (nI (sz + 1))]))) (m + nI 1) (by rw [List.length_set, List.length_set, l1]) (fun b z1 z2 => by rw [List.getElem?_set_ne (Ne.symm z1), List.getElem?_set_ne (Ne.symm z2)]; exact g1 b z1) (List.getElem?_set_self (by rw [List.length_set, l1]; exact hla)) (by rw [List.getElem?_set_ne hne]; exact List.getElem?_set_self (by rw [l1]; exact hle))
  refine nd_iconst hC (v := nI 1) (by rfl) dJ2_add_23 ?_
  refine nd_ireturn hC rfl (by first | rfl | exact nd_b_nar _) (by omega) (by omega) dJ2_add_24 (R)
theorem al_add0 (hg : nd_OK g) (hd : 3 ≤ d) {a v : Nat} {m : Int32} {fs : List Value} (hb : h[a]? = some (.inr (nJ2, [.int m, .float 201, .int (nI 0)]))) (hv : h[v]? = some (.inr (nX2, fs))) (hk : ∀ h2 m2, h2.length = h.length + 1 → (∀ b, b ≠ a → b < h.length → h2[b]? = h[b]?) → h2[a]? = some (.inr (nJ2, [.int m2, .ref h.length, .int (nI 1)])) → h2[h.length]? = some (.inl (10, 10, .inr (.inr (va_up (fun _ => .null) 0 (.ref v))))) → K (.inl (some (.int (nI 1)))) h2) : nd_M g mJ2_add d 1 10 [.ref a, .ref v] h K := by
  have hva : v ≠ a := fun z => by rw [z, hb] at hv; cases hv
  have hla := nd_get_lt hb
  refine nd_enter hg (by decide) rfl (Nat.le_of_ble_eq_true rfl) (fun X hC => ?_)
  refine nd_aload_n hC dJ2_add_0 rfl rfl ?_
  refine nd_dup hC (by rfl) dJ2_add_1 ?_
  refine al_getM hC hb rfl dJ2_add_2 ?_
  refine nd_iconst hC (v := nI 1) (by rfl) dJ2_add_5 ?_
  refine nd_iadd hC dJ2_add_6 ?_
  refine al_putM hC hb rfl dJ2_add_7 ?_
  generalize e1 : h.set a (.inr (nJ2, [.int (m + nI 1), .float 201, .int (nI 0)])) = h1
  have hb1 : h1[a]? = some (.inr (nJ2, [.int (m + nI 1), .float 201, .int (nI 0)])) := by rw [← e1]; exact List.getElem?_set_self hla
  have g1 : ∀ b, b ≠ a → h1[b]? = h[b]? := fun b hz => by rw [← e1]; exact List.getElem?_set_ne (Ne.symm hz)
  have l1 : h1.length = h.length := by rw [← e1]; exact List.length_set
  refine nd_aload_n hC dJ2_add_10 rfl rfl ?_
  refine nd_aload_n hC dJ2_add_11 rfl rfl ?_
  refine nd_aload_n hC dJ2_add_12 rfl rfl ?_
  refine nd_get (ci := nJ2) hC in_J2 rfl hb1 1 (by decide) q253 (fun _ z => z) rfl dJ2_add_13 ?_
  refine nd_aload_n hC dJ2_add_16 rfl rfl ?_
  refine nd_get (ci := nJ2) hC in_J2 rfl hb1 2 (by decide) q256 (fun _ z => z) rfl dJ2_add_17 ?_
  refine nd_callV (mm2 := mJ2_add_2) (As := [_, _, _]) (mc2 := 1) (ms2 := 10) (d2 := d - 1) hC rfl lkJ2_131 ⟨rfl, lmJ2_add_2⟩ (hb1) rfl (Nat.le_of_ble_eq_true rfl) (by omega) rfl (by exact Nat.le_of_ble_eq_true rfl) (by omega) (by omega) dJ2_add_20 rfl ((al_addE hg (by omega) hb1 ((g1 _ hva).trans hv) ?_))
  rw [l1]
  have R := hk ((h1 ++ [(.inl (10, 10, .inr (.inr (va_up (fun _ => .null) 0 (.ref v)))) : nd_C)]).set a (.inr (nJ2, [.int (m + nI 1), .ref h.length, .int (nI 1)]))) (m + nI 1) (by rw [List.length_set, List.length_append, l1]; rfl) (fun b z1 z2 => by rw [List.getElem?_set_ne (Ne.symm z1), List.getElem?_append_left (by omega)]; exact g1 b z1) (List.getElem?_set_self (by rw [List.length_append]; omega)) (by rw [List.getElem?_set_ne (by omega), List.getElem?_append_right (by omega), l1, Nat.sub_self]; rfl)
  refine nd_iconst hC (v := nI 1) (by rfl) dJ2_add_23 ?_
  refine nd_ireturn hC rfl (by first | rfl | exact nd_b_nar _) (by omega) (by omega) dJ2_add_24 (R)
end CP62

