set_option maxRecDepth 100000
/-! ===== ArrayLists of States: remove, clear ===== -/
theorem cpy_0 {f : Nat → Value} {sp dp : Nat} : va_cpy f f sp dp 0 = f := by
  funext q
  unfold va_cpy
  rw [if_neg (by omega)]
section CP63
variable {g : nd_G} {d : Nat} {K : nd_K} {h : nd_H}
theorem al_fast (hg : nd_OK g) {a ed sz i : Nat} {m : Int32} {gf : Nat → Value} (hb : h[a]? = some (.inr (nJ2, [.int m, .ref ed, .int (nI sz)]))) (he : h[ed]? = some (.inl (10, 10, .inr (.inr gf)))) (hi : i < sz) (hsz : sz ≤ 10) (hel : ∀ j, j < sz → ∃ v fs, gf j = .ref v ∧ h[v]? = some (.inr (nX2, fs))) (hk : ∀ h2 m2, h2.length = h.length → (∀ b, b ≠ a → b ≠ ed → h2[b]? = h[b]?) → h2[a]? = some (.inr (nJ2, [.int m2, .ref ed, .int (nI (sz - 1))])) → h2[ed]? = some (.inl (10, 10, .inr (.inr (va_up (va_cpy gf gf (i + 1) i (sz - 1 - i)) (sz - 1) .null)))) → K (.inl none) h2) : nd_M g mJ2_fastRemove d 0 0 [.ref a, .ref ed, .int (nI i)] h K := by
  have hne : a ≠ ed := fun z => by rw [z, he] at hb; cases hb
  have hla := nd_get_lt hb
  have hle := nd_get_lt he
  refine nd_enter hg (by decide) rfl (Nat.le_of_ble_eq_true rfl) (fun X hC => ?_)
  refine nd_aload_n hC dJ2_fastRemove_0 rfl rfl ?_
  refine nd_dup hC (by rfl) dJ2_fastRemove_1 ?_
  refine al_getM hC hb rfl dJ2_fastRemove_2 ?_
  refine nd_iconst hC (v := nI 1) (by rfl) dJ2_fastRemove_5 ?_
  refine nd_iadd hC dJ2_fastRemove_6 ?_
  refine al_putM hC hb rfl dJ2_fastRemove_7 ?_
  generalize e1 : h.set a (.inr (nJ2, [.int (m + nI 1), .ref ed, .int (nI sz)])) = h1
  have hb1 : h1[a]? = some (.inr (nJ2, [.int (m + nI 1), .ref ed, .int (nI sz)])) := by rw [← e1]; exact List.getElem?_set_self hla
  have g1 : ∀ b, b ≠ a → h1[b]? = h[b]? := fun b hz => by rw [← e1]; exact List.getElem?_set_ne (Ne.symm hz)
  have l1 : h1.length = h.length := by rw [← e1]; exact List.length_set
  have he1 := (g1 ed (Ne.symm hne)).trans he
  have J34 : ∀ h2 gf2, h2.length = h.length → (∀ b, b ≠ a → b ≠ ed → h2[b]? = h[b]?) → h2[a]? = some (.inr (nJ2, [.int (m + nI 1), .ref ed, .int (nI sz)])) → h2[ed]? = some (.inl (10, 10, .inr (.inr gf2))) → gf2 = va_cpy gf gf (i + 1) i (sz - 1 - i) → nd_W g mJ2_fastRemove d 0 0 K X 34 [some (.ref a), some (.ref ed), some (.int (nI i)), some (.int (nI (sz - 1)))] [] h2 0 0 := by
    intro h2 gf2 l2 g2 hb2 he2 ef
    subst ef
    refine nd_aload_n hC dJ2_fastRemove_34 rfl rfl ?_
    refine nd_aload_n hC dJ2_fastRemove_35 rfl rfl ?_
    refine nd_iload_n hC dJ2_fastRemove_36 rfl ?_
    refine nd_dup_x1 hC (by rfl) (by rfl) dJ2_fastRemove_37 ?_
    refine al_putZ hC hb2 rfl dJ2_fastRemove_38 ?_
    refine nd_null hC dJ2_fastRemove_41 ?_
    refine nd_astN hC ((List.getElem?_set_ne hne).trans he2) (j := sz - 1) (by omega) (by omega) dJ2_fastRemove_42 ?_
    have R := hk ((h2.set a (.inr (nJ2, [.int (m + nI 1), .ref ed, .int (nI (sz - 1))]))).set ed (.inl (10, 10, .inr (.inr (va_up (va_cpy gf gf (i + 1) i (sz - 1 - i)) (sz - 1) .null))))) (m + nI 1) (by rw [List.length_set, List.length_set, l2]) (fun b z1 z2 => by rw [List.getElem?_set_ne (Ne.symm z2), List.getElem?_set_ne (Ne.symm z1)]; exact g2 b z1 z2) (by rw [List.getElem?_set_ne (Ne.symm hne)]; exact List.getElem?_set_self (by rw [l2]; exact hla)) (List.getElem?_set_self (by rw [List.length_set, l2]; exact hle))
    refine nd_return hC rfl (by omega) (by omega) dJ2_fastRemove_43 (R)
  refine nd_aload_n hC dJ2_fastRemove_10 rfl rfl ?_
  refine nd_get (ci := nJ2) hC in_J2 rfl hb1 2 (by decide) q256 (fun _ z => z) rfl dJ2_fastRemove_11 ?_
  refine nd_iconst hC (v := nI 1) (by rfl) dJ2_fastRemove_14 ?_
  first | with_reducible refine nd_isubN hC (by omega) dJ2_fastRemove_15 ?_ | refine nd_isub hC dJ2_fastRemove_15 ?_
  refine nd_dup hC (by rfl) dJ2_fastRemove_16 ?_
  refine nd_istore_n hC dJ2_fastRemove_17 (Nat.le_of_ble_eq_true rfl) ?_
  refine nd_iload_n hC dJ2_fastRemove_18 rfl ?_
  first | with_reducible refine nd_icmp_leN hC (tgt := 34) (by omega) (by omega) dJ2_fastRemove_19 (by decide) (fun hq => ?_) (fun hq => ?_) | refine nd_icmp_le hC (tgt := 34) dJ2_fastRemove_19 (by decide) (fun hq => ?_) (fun hq => ?_)
  · have ez : sz - 1 - i = 0 := by omega
    exact J34 h1 gf l1 (fun b z1 z2 => g1 b z1) hb1 he1 (by rw [ez, cpy_0])
  · refine nd_aload_n hC dJ2_fastRemove_22 rfl rfl ?_
    refine nd_iload_n hC dJ2_fastRemove_23 rfl ?_
    refine nd_iconst hC (v := nI 1) (by rfl) dJ2_fastRemove_24 ?_
    first | with_reducible refine nd_iaddN hC dJ2_fastRemove_25 ?_ | refine nd_iadd hC dJ2_fastRemove_25 ?_
    refine nd_aload_n hC dJ2_fastRemove_26 rfl rfl ?_
    refine nd_iload_n hC dJ2_fastRemove_27 rfl ?_
    refine nd_iload_n hC dJ2_fastRemove_28 rfl ?_
    refine nd_iload_n hC dJ2_fastRemove_29 rfl ?_
    first | with_reducible refine nd_isubN hC (by omega) dJ2_fastRemove_30 ?_ | refine nd_isub hC dJ2_fastRemove_30 ?_
    refine nd_copyS hC (b := ed) (n0 := 10) (sp := i + 1) (dp := i) (n := sz - 1 - i) q653 he1 (by omega) (by omega) (by omega) (fun j hj => ?_) (by decide) dJ2_fastRemove_31 ?_
    · obtain ⟨v, fs, z1, z2⟩ := hel (i + 1 + j) (by omega)
      have hva : v ≠ a := fun z => by rw [z, hb] at z2; cases z2
      exact ⟨v, fs, z1, (g1 v hva).trans z2⟩
    · exact J34 (h1.set ed (.inl (10, 10, .inr (.inr (va_cpy gf gf (i + 1) i (sz - 1 - i)))))) _ (by rw [List.length_set, l1]) (fun b z1 z2 => by rw [List.getElem?_set_ne (Ne.symm z2)]; exact g1 b z1) (by rw [List.getElem?_set_ne (Ne.symm hne)]; exact hb1) (List.getElem?_set_self (by rw [l1]; exact hle)) rfl
theorem al_rem (hg : nd_OK g) (hd : 2 ≤ d) {a ed sz i : Nat} {m : Int32} {gf : Nat → Value} (hb : h[a]? = some (.inr (nJ2, [.int m, .ref ed, .int (nI sz)]))) (he : h[ed]? = some (.inl (10, 10, .inr (.inr gf)))) (hi : i < sz) (hsz : sz ≤ 10) (hel : ∀ j, j < sz → ∃ v fs, gf j = .ref v ∧ h[v]? = some (.inr (nX2, fs))) (hk : ∀ h2 m2, h2.length = h.length → (∀ b, b ≠ a → b ≠ ed → h2[b]? = h[b]?) → h2[a]? = some (.inr (nJ2, [.int m2, .ref ed, .int (nI (sz - 1))])) → h2[ed]? = some (.inl (10, 10, .inr (.inr (va_up (va_cpy gf gf (i + 1) i (sz - 1 - i)) (sz - 1) .null)))) → K (.inl (some (gf i))) h2) : nd_M g mJ2_remove d 0 0 [.ref a, .int (nI i)] h K := by
  obtain ⟨v, fs, ev, hv⟩ := hel i hi
  rw [ev] at hk
  refine nd_enter hg (by decide) rfl (Nat.le_of_ble_eq_true rfl) (fun X hC => ?_)
  refine nd_iload_n hC dJ2_remove_0 rfl ?_
  refine nd_aload_n hC dJ2_remove_1 rfl rfl ?_
  refine nd_get (ci := nJ2) hC in_J2 rfl hb 2 (by decide) q256 (fun _ z => z) rfl dJ2_remove_2 ?_
  refine nd_callS (mm2 := mJ17_checkIndex) (As := [_, _]) (mc2 := 0) (ms2 := 0) (d2 := d - 1) hC rfl lkJ2_118 lmJ17_checkIndex (Nat.le_of_ble_eq_true rfl) (by omega) rfl (by exact Nat.le_of_ble_eq_true rfl) (by omega) (by omega) dJ2_remove_5 rfl ((sq_checkIndexO hg (by omega) hi (by omega) ?_))
  refine nd_pop hC (by rfl) dJ2_remove_8 ?_
  refine nd_aload_n hC dJ2_remove_9 rfl rfl ?_
  refine nd_get (ci := nJ2) hC in_J2 rfl hb 1 (by decide) q253 (fun _ z => z) rfl dJ2_remove_10 ?_
  refine nd_astore_n hC dJ2_remove_13 (Nat.le_of_ble_eq_true rfl) rfl ?_
  refine nd_aload_n hC dJ2_remove_14 rfl rfl ?_
  refine nd_iload_n hC dJ2_remove_15 rfl ?_
  refine nd_aaloadN hC rfl rfl he (by omega) (by omega) dJ2_remove_16 ?_
  rw [ev]
  refine nd_astore_n hC dJ2_remove_17 (Nat.le_of_ble_eq_true rfl) rfl ?_
  refine nd_aload_n hC dJ2_remove_18 rfl rfl ?_
  refine nd_aload_n hC dJ2_remove_19 rfl rfl ?_
  refine nd_iload_n hC dJ2_remove_20 rfl ?_
  refine nd_callV (mm2 := mJ2_fastRemove) (As := [_, _]) (mc2 := 0) (ms2 := 0) (d2 := d - 1) hC rfl lkJ2_144 ⟨rfl, lmJ2_fastRemove⟩ (hb) rfl (Nat.le_of_ble_eq_true rfl) (by omega) rfl (by exact Nat.le_of_ble_eq_true rfl) (by omega) (by omega) dJ2_remove_21 rfl ((al_fast hg hb he hi hsz hel (fun h2 m2 q1 q2 q3 q4 => ?_)))
  have R := hk h2 m2 q1 q2 q3 q4
  refine nd_aload_n hC dJ2_remove_24 rfl rfl ?_
  refine nd_areturn hC rfl (by first | exact Or.inl ⟨_, rfl⟩ | exact Or.inr ⟨_, rfl⟩) (by rfl) (by omega) (by omega) dJ2_remove_25 (R)
theorem al_clear0 (hg : nd_OK g) {a : Nat} {m : Int32} (hb : h[a]? = some (.inr (nJ2, [.int m, .float 201, .int (nI 0)]))) (hk : ∀ h2 m2, h2.length = h.length → (∀ b, b ≠ a → h2[b]? = h[b]?) → h2[a]? = some (.inr (nJ2, [.int m2, .float 201, .int (nI 0)])) → K (.inl none) h2) : nd_M g mJ2_clear d 0 0 [.ref a] h K := by
  have hla := nd_get_lt hb
  refine nd_enter hg (by decide) rfl (Nat.le_of_ble_eq_true rfl) (fun X hC => ?_)
  refine nd_aload_n hC dJ2_clear_0 rfl rfl ?_
  refine nd_dup hC (by rfl) dJ2_clear_1 ?_
  refine al_getM hC hb rfl dJ2_clear_2 ?_
  refine nd_iconst hC (v := nI 1) (by rfl) dJ2_clear_5 ?_
  refine nd_iadd hC dJ2_clear_6 ?_
  refine al_putM hC hb rfl dJ2_clear_7 ?_
  generalize e1 : h.set a (.inr (nJ2, [.int (m + nI 1), .float 201, .int (nI 0)])) = h1
  have hb1 : h1[a]? = some (.inr (nJ2, [.int (m + nI 1), .float 201, .int (nI 0)])) := by rw [← e1]; exact List.getElem?_set_self hla
  have g1 : ∀ b, b ≠ a → h1[b]? = h[b]? := fun b hz => by rw [← e1]; exact List.getElem?_set_ne (Ne.symm hz)
  have l1 : h1.length = h.length := by rw [← e1]; exact List.length_set
  refine nd_aload_n hC dJ2_clear_10 rfl rfl ?_
  refine nd_get (ci := nJ2) hC in_J2 rfl hb1 1 (by decide) q253 (fun _ z => z) rfl dJ2_clear_11 ?_
  refine nd_astore_n hC dJ2_clear_14 (Nat.le_of_ble_eq_true rfl) rfl ?_
  refine nd_aload_n hC dJ2_clear_15 rfl rfl ?_
  refine nd_get (ci := nJ2) hC in_J2 rfl hb1 2 (by decide) q256 (fun _ z => z) rfl dJ2_clear_16 ?_
  refine nd_istore_n hC dJ2_clear_19 (Nat.le_of_ble_eq_true rfl) ?_
  refine nd_aload_n hC dJ2_clear_20 rfl rfl ?_
  refine nd_iconst hC (v := nI 0) (by rfl) dJ2_clear_21 ?_
  refine nd_dup_x1 hC (by rfl) (by rfl) dJ2_clear_22 ?_
  refine al_putZ hC hb1 rfl dJ2_clear_23 ?_
  have R := hk (h1.set a (.inr (nJ2, [.int (m + nI 1), .float 201, .int (nI 0)]))) (m + nI 1) (by rw [List.length_set, l1]) (fun b z => by rw [List.getElem?_set_ne (Ne.symm z)]; exact g1 b z) (List.getElem?_set_self (by rw [l1]; exact hla))
  refine nd_istore_n hC dJ2_clear_26 (Nat.le_of_ble_eq_true rfl) ?_
  refine nd_iload_n hC dJ2_clear_27 rfl ?_
  refine nd_iload_n hC dJ2_clear_28 rfl ?_
  first | with_reducible refine nd_icmp_geN hC (tgt := 42) (by omega) (by omega) dJ2_clear_29 (by decide) (fun hq => ?_) (fun hq => ?_) | refine nd_icmp_ge hC (tgt := 42) dJ2_clear_29 (by decide) (fun hq => ?_) (fun hq => ?_)
  · refine nd_return hC rfl (by omega) (by omega) dJ2_clear_42 (R)
  · omega
theorem al_clear1 (hg : nd_OK g) {a ed sz : Nat} {m : Int32} {gf : Nat → Value} (hb : h[a]? = some (.inr (nJ2, [.int m, .ref ed, .int (nI sz)]))) (he : h[ed]? = some (.inl (10, 10, .inr (.inr gf)))) (hsz : sz ≤ 10) (hk : ∀ h2 m2 gf2, h2.length = h.length → (∀ b, b ≠ a → b ≠ ed → h2[b]? = h[b]?) → h2[a]? = some (.inr (nJ2, [.int m2, .ref ed, .int (nI 0)])) → h2[ed]? = some (.inl (10, 10, .inr (.inr gf2))) → (∀ j, nd_rf (gf j) = true → nd_rf (gf2 j) = true) → K (.inl none) h2) : nd_M g mJ2_clear d 0 0 [.ref a] h K := by
  have hne : a ≠ ed := fun z => by rw [z, he] at hb; cases hb
  have hla := nd_get_lt hb
  have hle := nd_get_lt he
  refine nd_enter hg (by decide) rfl (Nat.le_of_ble_eq_true rfl) (fun X hC => ?_)
  refine nd_aload_n hC dJ2_clear_0 rfl rfl ?_
  refine nd_dup hC (by rfl) dJ2_clear_1 ?_
  refine al_getM hC hb rfl dJ2_clear_2 ?_
  refine nd_iconst hC (v := nI 1) (by rfl) dJ2_clear_5 ?_
  refine nd_iadd hC dJ2_clear_6 ?_
  refine al_putM hC hb rfl dJ2_clear_7 ?_
  generalize e1 : h.set a (.inr (nJ2, [.int (m + nI 1), .ref ed, .int (nI sz)])) = h1
  have hb1 : h1[a]? = some (.inr (nJ2, [.int (m + nI 1), .ref ed, .int (nI sz)])) := by rw [← e1]; exact List.getElem?_set_self hla
  have g1 : ∀ b, b ≠ a → h1[b]? = h[b]? := fun b hz => by rw [← e1]; exact List.getElem?_set_ne (Ne.symm hz)
  have l1 : h1.length = h.length := by rw [← e1]; exact List.length_set
  refine nd_aload_n hC dJ2_clear_10 rfl rfl ?_
  refine nd_get (ci := nJ2) hC in_J2 rfl hb1 1 (by decide) q253 (fun _ z => z) rfl dJ2_clear_11 ?_
  refine nd_astore_n hC dJ2_clear_14 (Nat.le_of_ble_eq_true rfl) rfl ?_
  refine nd_aload_n hC dJ2_clear_15 rfl rfl ?_
  refine nd_get (ci := nJ2) hC in_J2 rfl hb1 2 (by decide) q256 (fun _ z => z) rfl dJ2_clear_16 ?_
  refine nd_istore_n hC dJ2_clear_19 (Nat.le_of_ble_eq_true rfl) ?_
  refine nd_aload_n hC dJ2_clear_20 rfl rfl ?_
  refine nd_iconst hC (v := nI 0) (by rfl) dJ2_clear_21 ?_
  refine nd_dup_x1 hC (by rfl) (by rfl) dJ2_clear_22 ?_
  refine al_putZ hC hb1 rfl dJ2_clear_23 ?_
  refine nd_istore_n hC dJ2_clear_26 (Nat.le_of_ble_eq_true rfl) ?_
  have L : ∀ k, k ≤ sz → ∀ h2 gf2, h2.length = h.length → (∀ b, b ≠ a → b ≠ ed → h2[b]? = h[b]?) → h2[a]? = some (.inr (nJ2, [.int (m + nI 1), .ref ed, .int (nI 0)])) → h2[ed]? = some (.inl (10, 10, .inr (.inr gf2))) → (∀ j, nd_rf (gf j) = true → nd_rf (gf2 j) = true) → nd_W g mJ2_clear d 0 0 K X 27 [some (.ref a), some (.ref ed), some (.int (nI sz)), some (.int (nI k))] [] h2 0 0 := by
    refine nd_for _ _ ?_ ?_
    · intro h2 gf2 q1 q2 q3 q4 q5
      refine nd_iload_n hC dJ2_clear_27 rfl ?_
      refine nd_iload_n hC dJ2_clear_28 rfl ?_
      first | with_reducible refine nd_icmp_geN hC (tgt := 42) (by omega) (by omega) dJ2_clear_29 (by decide) (fun hq => ?_) (fun hq => ?_) | refine nd_icmp_ge hC (tgt := 42) dJ2_clear_29 (by decide) (fun hq => ?_) (fun hq => ?_)
      · refine nd_return hC rfl (by omega) (by omega) dJ2_clear_42 ((hk h2 _ gf2 q1 q2 q3 q4 q5))
      · omega
    · intro k hk1 ih h2 gf2 q1 q2 q3 q4 q5
      refine nd_iload_n hC dJ2_clear_27 rfl ?_
      refine nd_iload_n hC dJ2_clear_28 rfl ?_
      first | with_reducible refine nd_icmp_geN hC (tgt := 42) (by omega) (by omega) dJ2_clear_29 (by decide) (fun hq => ?_) (fun hq => ?_) | refine nd_icmp_ge hC (tgt := 42) dJ2_clear_29 (by decide) (fun hq => ?_) (fun hq => ?_)
      · omega
      refine nd_aload_n hC dJ2_clear_32 rfl rfl ?_
      refine nd_iload_n hC dJ2_clear_33 rfl ?_
      refine nd_null hC dJ2_clear_34 ?_
      refine nd_astN hC q4 (j := k) (by omega) (by omega) dJ2_clear_35 ?_
      first | with_reducible refine nd_iincN hC dJ2_clear_36 rfl (Nat.le_of_ble_eq_true rfl) ?_ | refine nd_iinc hC dJ2_clear_36 rfl rfl (Nat.le_of_ble_eq_true rfl) ?_
      refine nd_goto hC (tgt := 27) dJ2_clear_39 (by decide) ?_
      refine ih _ _ (by rw [List.length_set, q1]) (fun b z1 z2 => by rw [List.getElem?_set_ne (Ne.symm z2)]; exact q2 b z1 z2) (by rw [List.getElem?_set_ne (Ne.symm hne)]; exact q3) (List.getElem?_set_self (nd_get_lt q4)) (fun j hj => ?_)
      by_cases z : j = k
      · subst z; rw [va_up_s]; rfl
      · rw [va_up_n _ _ z]; exact q5 j hj
  exact L 0 (Nat.zero_le _) _ gf (by rw [List.length_set, l1]) (fun b z1 z2 => by rw [List.getElem?_set_ne (Ne.symm z1)]; exact g1 b z1) (List.getElem?_set_self (by rw [l1]; exact hla)) (by rw [List.getElem?_set_ne hne]; exact (g1 ed (Ne.symm hne)).trans he) (fun j hj => hj)
end CP63

