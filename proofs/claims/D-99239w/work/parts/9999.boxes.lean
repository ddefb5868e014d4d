set_option maxRecDepth 100000
/-! ===== rows of small Integers and of String constants; ArrayList.add of a small Integer ===== -/
section CP99
variable {g : nd_G} {mm : nd_Mt} {d mc ms : Nat} {K : nd_K} {X : nd_X} {pc : Nat} {lv : List (Option Value)} {st : List Value} {h : nd_H} {cs ss : Nat}
theorem nd_astI (hC : nd_Cx g mm X) {b n j i : Nat} {f : Nat → Value} (hi : i < 256) (hb : h[b]? = some (.inl (10, n, .inr (.inr f)))) (hj : j < n) (hn : n ≤ 2147483647) (hd : decode mm.2.1 pc = .ok (.aastore, 1)) (k : nd_W g mm d mc ms K X (pc + 1) lv st (h.set b (.inl (10, n, .inr (.inr (va_up f j (nd_f (1000 + i))))))) cs ss) : nd_W g mm d mc ms K X pc lv (nd_f (1000 + i) :: .int (nI j) :: .ref b :: st) h cs ss := by
  intro H ls locs hl hR hS
  have hij : (nI j).toInt = (j : Int) := nI_toInt (by omega)
  have hin := nd_inn hij hj
  have e9 := nd_toNat hij
  obtain ⟨e1, fO, fF⟩ := hC.fo.2.2.2.2 i hi
  have ev : nd_v g (nd_f (1000 + i)) = .ref (nd_sa g (1000 + i)) := by rw [nd_vf (by omega), e1]
  rw [List.map_cons, ev]
  obtain ⟨cv, g1, g2, g3, -⟩ := ((va_O.moved hC.al fO).kept (nd_frn hC hR hS)).kept hS.2.1
  obtain ⟨kA, comp, k1, k2, k3, -⟩ := nd_ara hC (k := 10) rfl
  obtain ⟨kE, hkE, -⟩ := Vm.findClass_spec k3
  obtain ⟨kV, hkV, -⟩ := Vm.findClass_spec g3
  have hasg : X.2.2.1.vm.assignable cv.cls comp = true := by
    obtain ⟨c0, t1, f1, f2, f3⟩ := Cond.castable_spec (nd_face hC q3512 rfl rfl)
    cases g3.symm.trans f1
    cases k3.symm.trans f2
    exact f3
  have h0 : ¬ nI j < 0 := fun q => hin (Or.inl q)
  refine W.aast hC.1 hC.2.1 (hR.2.2 b _ hb) (fun q z => by cases z) (fun z => by cases z) k1 k2 rfl hkE ⟨h0, by show _ < (arrV _ _ _).slots.size; rw [arrV_size, e9]; exact hj⟩ g1 (fun q z => by rw [z] at g2; cases g2) hkV hasg rfl rfl hd fun H1 e z oq => ?_
  refine k H1 ls _ hl (hR.set z oq ?_) (nd_S.put hS z oq)
  show H1[nd_z g + b]? = some (arrV (nd_tc g 10) n (fun q => nd_v g (va_up f j (nd_f (1000 + i)) q)))
  rw [e]
  show some ((arrV (nd_tc g 10) n (fun q => nd_v g (f q))).setSlot _ _) = _
  rw [arrV_store, e9]
  congr 2
  funext q
  by_cases hq : q = j
  · subst hq
    simp only [updV, va_up, if_true]
    exact ev.symm
  · simp [updV, va_up, hq]
theorem nd_astS (hC : nd_Cx g mm X) {b n j i : Nat} {f : Nat → Value} {r : String × Nat × String × List Nat} (hr : nd_str[i]? = some r) (hb : h[b]? = some (.inl (9, n, .inr (.inr f)))) (hj : j < n) (hn : n ≤ 2147483647) (hd : decode mm.2.1 pc = .ok (.aastore, 1)) (k : nd_W g mm d mc ms K X (pc + 1) lv st (h.set b (.inl (9, n, .inr (.inr (va_up f j (nd_f i)))))) cs ss) : nd_W g mm d mc ms K X pc lv (nd_f i :: .int (nI j) :: .ref b :: st) h cs ss := by
  intro H ls locs hl hR hS
  have hij : (nI j).toInt = (j : Int) := nI_toInt (by omega)
  have hin := nd_inn hij hj
  have e9 := nd_toNat hij
  have hi := nd_str_lt hr
  obtain ⟨e1, -, fO, -⟩ := hC.fo.1 i r hr
  have ev : nd_v g (nd_f i) = .ref (nd_sa g (i)) := by rw [nd_vf (by omega), e1]
  rw [List.map_cons, ev]
  obtain ⟨cv, g1, g2, g3, -⟩ := ((va_O.moved hC.al fO).kept (nd_frn hC hR hS)).kept hS.2.1
  obtain ⟨kA, comp, k1, k2, k3, -⟩ := nd_ara hC (k := 9) rfl
  obtain ⟨kE, hkE, -⟩ := Vm.findClass_spec k3
  obtain ⟨kV, hkV, -⟩ := Vm.findClass_spec g3
  have hasg : X.2.2.1.vm.assignable cv.cls comp = true := by
    cases g3.symm.trans k3
    exact va_asgS _ _
  have h0 : ¬ nI j < 0 := fun q => hin (Or.inl q)
  refine W.aast hC.1 hC.2.1 (hR.2.2 b _ hb) (fun q z => by cases z) (fun z => by cases z) k1 k2 rfl hkE ⟨h0, by show _ < (arrV _ _ _).slots.size; rw [arrV_size, e9]; exact hj⟩ g1 (fun q z => by rw [z] at g2; cases g2) hkV hasg rfl rfl hd fun H1 e z oq => ?_
  refine k H1 ls _ hl (hR.set z oq ?_) (nd_S.put hS z oq)
  show H1[nd_z g + b]? = some (arrV (nd_tc g 9) n (fun q => nd_v g (va_up f j (nd_f i) q)))
  rw [e]
  show some ((arrV (nd_tc g 9) n (fun q => nd_v g (f q))).setSlot _ _) = _
  rw [arrV_store, e9]
  congr 2
  funext q
  by_cases hq : q = j
  · subst hq
    simp only [updV, va_up, if_true]
    exact ev.symm
  · simp [updV, va_up, hq]
theorem al_addIR (hg : nd_OK g) {a ed sz v : Nat} {m : Int32} {gf : Nat → Value} (hb : h[a]? = some (.inr (nJ2, [.int m, .ref ed, .int (nI sz)]))) (he : h[ed]? = some (.inl (10, 10, .inr (.inr gf)))) (hv : v < 256) (hsz : sz < 10) (hk : K (.inl none) ((h.set ed (.inl (10, 10, .inr (.inr (va_up gf sz (nd_f (1000 + v))))))).set a (.inr (nJ2, [.int m, .ref ed, .int (nI (sz + 1))])))) : nd_M g mJ2_add_2 d 1 10 [.ref a, nd_f (1000 + v), .ref ed, .int (nI sz)] h K := by
  have hne : a ≠ ed := fun z => by rw [z, he] at hb; cases hb
  refine nd_enter hg (by decide) rfl (Nat.le_of_ble_eq_true rfl) (fun X hC => ?_)
  refine nd_iload_n hC dJ2_add_2_0 rfl ?_
  refine nd_aload_n hC dJ2_add_2_1 rfl rfl ?_
  refine nd_alen hC rfl he dJ2_add_2_2 ?_
  first | with_reducible refine nd_icmp_neN hC (tgt := 11) (by omega) (by omega) dJ2_add_2_3 (by decide) (fun hq => ?_) (fun hq => ?_) | refine nd_icmp_ne hC (tgt := 11) dJ2_add_2_3 (by decide) (fun hq => ?_) (fun hq => ?_)
  · refine nd_aload_n hC dJ2_add_2_11 rfl rfl ?_
    refine nd_iload_n hC dJ2_add_2_12 rfl ?_
    refine nd_aload_n hC dJ2_add_2_13 rfl rfl ?_
    refine nd_astI hC hv he hsz (by omega) dJ2_add_2_14 ?_
    refine nd_aload_n hC dJ2_add_2_15 rfl rfl ?_
    refine nd_iload_n hC dJ2_add_2_16 rfl ?_
    refine nd_iconst hC (v := nI 1) (by rfl) dJ2_add_2_17 ?_
    first | with_reducible refine nd_iaddN hC dJ2_add_2_18 ?_ | refine nd_iadd hC dJ2_add_2_18 ?_
    refine al_putZ hC ((List.getElem?_set_ne (Ne.symm hne)).trans hb) rfl dJ2_add_2_19 ?_
    refine nd_return hC rfl (by omega) (by omega) dJ2_add_2_22 (hk)
  · omega
theorem al_addIE (hg : nd_OK g) (hd : 2 ≤ d) {a v : Nat} {m : Int32} (hb : h[a]? = some (.inr (nJ2, [.int m, .float 201, .int (nI 0)]))) (hv : v < 256) (hk : K (.inl none) ((h ++ [(.inl (10, 10, .inr (.inr (va_up (fun _ => .null) 0 (nd_f (1000 + v))))) : nd_C)]).set a (.inr (nJ2, [.int m, .ref h.length, .int (nI 1)])))) : nd_M g mJ2_add_2 d 1 10 [.ref a, nd_f (1000 + v), .float 201, .int (nI 0)] h K := by
  have hla := nd_get_lt hb
  refine nd_enter hg (by decide) rfl (Nat.le_of_ble_eq_true rfl) (fun X hC => ?_)
  refine nd_iload_n hC dJ2_add_2_0 rfl ?_
  refine nd_aload_n hC dJ2_add_2_1 rfl rfl ?_
  refine nd_alen0 hC dJ2_add_2_2 ?_
  first | with_reducible refine nd_icmp_neN hC (tgt := 11) (by omega) (by omega) dJ2_add_2_3 (by decide) (fun hq => ?_) (fun hq => ?_) | refine nd_icmp_ne hC (tgt := 11) dJ2_add_2_3 (by decide) (fun hq => ?_) (fun hq => ?_)
  · exact absurd rfl hq
  · refine nd_aload_n hC dJ2_add_2_6 rfl rfl ?_
    refine nd_callV (mm2 := mJ2_grow) (As := []) (mc2 := 1) (ms2 := 10) (d2 := d - 1) hC rfl lkJ2_129 ⟨rfl, lmJ2_grow⟩ (hb) rfl (Nat.le_of_ble_eq_true rfl) (by omega) rfl (by exact Nat.le_of_ble_eq_true rfl) (by omega) (by omega) dJ2_add_2_7 rfl ((al_grow hg (by omega) hb ?_))
    refine nd_astore_n hC dJ2_add_2_10 (Nat.le_of_ble_eq_true rfl) rfl ?_
    refine nd_aload_n hC dJ2_add_2_11 rfl rfl ?_
    refine nd_iload_n hC dJ2_add_2_12 rfl ?_
    refine nd_aload_n hC dJ2_add_2_13 rfl rfl ?_
    have hL : ((h ++ [(.inl (10, 10, .inr (.inr (fun _ => .null))) : nd_C)]).set a (.inr (nJ2, [.int m, .ref h.length, .int (nI 0)])))[h.length]? = some (.inl (10, 10, .inr (.inr (fun _ => .null)))) := by
      rw [List.getElem?_set_ne (by omega)]; simp
    refine nd_astI (j := 0) (n := 10) hC hv hL (by omega) (by omega) dJ2_add_2_14 ?_
    refine nd_aload_n hC dJ2_add_2_15 rfl rfl ?_
    refine nd_iload_n hC dJ2_add_2_16 rfl ?_
    refine nd_iconst hC (v := nI 1) (by rfl) dJ2_add_2_17 ?_
    first | with_reducible refine nd_iaddN hC dJ2_add_2_18 ?_ | refine nd_iadd hC dJ2_add_2_18 ?_
    have hA : (((h ++ [(.inl (10, 10, .inr (.inr (fun _ => .null))) : nd_C)]).set a (.inr (nJ2, [.int m, .ref h.length, .int (nI 0)]))).set h.length (.inl (10, 10, .inr (.inr (va_up (fun _ => .null) 0 (nd_f (1000 + v)))))))[a]? = some (.inr (nJ2, [.int m, .ref h.length, .int (nI 0)])) := by
      rw [List.getElem?_set_ne (by omega)]; exact List.getElem?_set_self (by rw [List.length_append]; omega)
    refine al_putZ hC hA rfl dJ2_add_2_19 ?_
    have e : (((h ++ [(.inl (10, 10, .inr (.inr (fun _ => .null))) : nd_C)]).set a (.inr (nJ2, [.int m, .ref h.length, .int (nI 0)]))).set h.length (.inl (10, 10, .inr (.inr (va_up (fun _ => .null) 0 (nd_f (1000 + v))))))).set a (.inr (nJ2, [.int m, .ref h.length, .int (nI (0 + 1))])) = ((h ++ [(.inl (10, 10, .inr (.inr (va_up (fun _ => .null) 0 (nd_f (1000 + v))))) : nd_C)])).set a (.inr (nJ2, [.int m, .ref h.length, .int (nI 1)])) := by
      rw [List.set_comm _ _ (show a ≠ h.length by omega), List.set_set, List.set_append_right _ _ (Nat.le_refl _), Nat.sub_self]
      rfl
    rw [e]
    refine nd_return hC rfl (by omega) (by omega) dJ2_add_2_22 (hk)
theorem al_addI1 (hg : nd_OK g) (hd : 1 ≤ d) {a ed sz v : Nat} {m : Int32} {gf : Nat → Value} (hb : h[a]? = some (.inr (nJ2, [.int m, .ref ed, .int (nI sz)]))) (he : h[ed]? = some (.inl (10, 10, .inr (.inr gf)))) (hv : v < 256) (hsz : sz < 10) (hk : ∀ h2 m2, h2.length = h.length → (∀ b, b ≠ a → b ≠ ed → h2[b]? = h[b]?) → h2[a]? = some (.inr (nJ2, [.int m2, .ref ed, .int (nI (sz + 1))])) → h2[ed]? = some (.inl (10, 10, .inr (.inr (va_up gf sz (nd_f (1000 + v)))))) → K (.inl (some (.int (nI 1)))) h2) : nd_M g mJ2_add d 1 10 [.ref a, nd_f (1000 + v)] h K := by
  have hne : a ≠ ed := fun z => by rw [z, he] at hb; cases hb
  have hla := nd_get_lt hb
  have hle := nd_get_lt he
  refine nd_enter hg (by decide) rfl (Nat.le_of_ble_eq_true rfl) (fun X hC => ?_)
  refine nd_aload_n hC dJ2_add_0 rfl rfl ?_
  refine nd_dup hC (by rfl) dJ2_add_1 ?_
  refine al_getM hC hb rfl dJ2_add_2 ?_
  refine nd_iconst hC (v := nI 1) (by rfl) dJ2_add_5 ?_
  refine nd_iadd hC dJ2_add_6 ?_
  refine al_putM hC hb rfl dJ2_add_7 ?_
  generalize e1 : h.set a (.inr (nJ2, [.int (m + nI 1), .ref ed, .int (nI sz)])) = h1
  have hb1 : h1[a]? = some (.inr (nJ2, [.int (m + nI 1), .ref ed, .int (nI sz)])) := by rw [← e1]; exact List.getElem?_set_self hla
  have g1 : ∀ b, b ≠ a → h1[b]? = h[b]? := fun b hz => by rw [← e1]; exact List.getElem?_set_ne (Ne.symm hz)
  have l1 : h1.length = h.length := by rw [← e1]; exact List.length_set
  refine nd_aload_n hC dJ2_add_10 rfl rfl ?_
  refine nd_aload_n hC dJ2_add_11 rfl rfl ?_
  refine nd_aload_n hC dJ2_add_12 rfl rfl ?_
  refine nd_get (ci := nJ2) hC in_J2 rfl hb1 1 (by decide) q253 (fun _ z => z) rfl dJ2_add_13 ?_
  refine nd_aload_n hC dJ2_add_16 rfl rfl ?_
  refine nd_get (ci := nJ2) hC in_J2 rfl hb1 2 (by decide) q256 (fun _ z => z) rfl dJ2_add_17 ?_
  refine nd_callV (mm2 := mJ2_add_2) (As := [_, _, _]) (mc2 := 1) (ms2 := 10) (d2 := d - 1) hC rfl lkJ2_131 ⟨rfl, lmJ2_add_2⟩ (hb1) rfl (Nat.le_of_ble_eq_true rfl) (by omega) rfl (by exact Nat.le_of_ble_eq_true rfl) (by omega) (by omega) dJ2_add_20 rfl ((al_addIR hg hb1 ((g1 _ (Ne.symm hne)).trans he) hv hsz ?_))
  have R := hk ((h1.set ed (.inl (10, 10, .inr (.inr (va_up gf sz (nd_f (1000 + v))))))).set a (.inr (nJ2, [.int (m + nI 1), .ref ed, .int (nI (sz + 1))]))) (m + nI 1) (by rw [List.length_set, List.length_set, l1]) (fun b z1 z2 => by rw [List.getElem?_set_ne (Ne.symm z1), List.getElem?_set_ne (Ne.symm z2)]; exact g1 b z1) (List.getElem?_set_self (by rw [List.length_set, l1]; exact hla)) (by rw [List.getElem?_set_ne hne]; exact List.getElem?_set_self (by rw [l1]; exact hle))
  refine nd_iconst hC (v := nI 1) (by rfl) dJ2_add_23 ?_
  refine nd_ireturn hC rfl (by first | rfl | exact nd_b_nar _) (by omega) (by omega) dJ2_add_24 (R)
theorem al_addI0 (hg : nd_OK g) (hd : 3 ≤ d) {a v : Nat} {m : Int32} (hb : h[a]? = some (.inr (nJ2, [.int m, .float 201, .int (nI 0)]))) (hv : v < 256) (hk : ∀ h2 m2, h2.length = h.length + 1 → (∀ b, b ≠ a → b < h.length → h2[b]? = h[b]?) → h2[a]? = some (.inr (nJ2, [.int m2, .ref h.length, .int (nI 1)])) → h2[h.length]? = some (.inl (10, 10, .inr (.inr (va_up (fun _ => .null) 0 (nd_f (1000 + v)))))) → K (.inl (some (.int (nI 1)))) h2) : nd_M g mJ2_add d 1 10 [.ref a, nd_f (1000 + v)] h K := by
  have hla := nd_get_lt hb
  refine nd_enter hg (by decide) rfl (Nat.le_of_ble_eq_true rfl) (fun X hC => ?_)
  refine nd_aload_n hC dJ2_add_0 rfl rfl ?_
  refine nd_dup hC (by rfl) dJ2_add_1 ?_
  refine al_getM hC hb rfl dJ2_add_2 ?_
  refine nd_iconst hC (v := nI 1) (by rfl) dJ2_add_5 ?_
  refine nd_iadd hC dJ2_add_6 ?_
  refine al_putM hC hb rfl dJ2_add_7 ?_
  generalize e1 : h.set a (.inr (nJ2, [.int (m + nI 1), .float 201, .int (nI 0)])) = h1
  have hb1 : h1[a]? = some (.inr (nJ2, [.int (m + nI 1), .float 201, .int (nI 0)])) := by rw [← e1]; exact List.getElem?_set_self hla
  have g1 : ∀ b, b ≠ a → h1[b]? = h[b]? := fun b hz => by rw [← e1]; exact List.getElem?_set_ne (Ne.symm hz)
  have l1 : h1.length = h.length := by rw [← e1]; exact List.length_set
  refine nd_aload_n hC dJ2_add_10 rfl rfl ?_
  refine nd_aload_n hC dJ2_add_11 rfl rfl ?_
  refine nd_aload_n hC dJ2_add_12 rfl rfl ?_
  refine nd_get (ci := nJ2) hC in_J2 rfl hb1 1 (by decide) q253 (fun _ z => z) rfl dJ2_add_13 ?_
  refine nd_aload_n hC dJ2_add_16 rfl rfl ?_
  refine nd_get (ci := nJ2) hC in_J2 rfl hb1 2 (by decide) q256 (fun _ z => z) rfl dJ2_add_17 ?_
  refine nd_callV (mm2 := mJ2_add_2) (As := [_, _, _]) (mc2 := 1) (ms2 := 10) (d2 := d - 1) hC rfl lkJ2_131 ⟨rfl, lmJ2_add_2⟩ (hb1) rfl (Nat.le_of_ble_eq_true rfl) (by omega) rfl (by exact Nat.le_of_ble_eq_true rfl) (by omega) (by omega) dJ2_add_20 rfl ((al_addIE hg (by omega) hb1 hv ?_))
  rw [l1]
  have R := hk ((h1 ++ [(.inl (10, 10, .inr (.inr (va_up (fun _ => .null) 0 (nd_f (1000 + v))))) : nd_C)]).set a (.inr (nJ2, [.int (m + nI 1), .ref h.length, .int (nI 1)]))) (m + nI 1) (by rw [List.length_set, List.length_append, l1]; rfl) (fun b z1 z2 => by rw [List.getElem?_set_ne (Ne.symm z1), List.getElem?_append_left (by omega)]; exact g1 b z1) (List.getElem?_set_self (by rw [List.length_append]; omega)) (by rw [List.getElem?_set_ne (by omega), List.getElem?_append_right (by omega), l1, Nat.sub_self]; rfl)
  refine nd_iconst hC (v := nI 1) (by rfl) dJ2_add_23 ?_
  refine nd_ireturn hC rfl (by first | rfl | exact nd_b_nar _) (by omega) (by omega) dJ2_add_24 (R)
end CP99

