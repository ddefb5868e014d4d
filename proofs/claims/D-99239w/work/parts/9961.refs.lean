set_option maxRecDepth 100000
/-! ===== rows of objects: stores of States, of null; shifting ===== -/
section CP61
variable {g : nd_G} {mm : nd_Mt} {d mc ms : Nat} {K : nd_K} {X : nd_X} {pc : Nat} {lv : List (Option Value)} {st : List Value} {h : nd_H} {cs ss : Nat}
/-- a State can lie in a row of Objects -/
theorem nd_objAs (hC : nd_Cx g mm X) {b : Nat} {fs : List Value} (hb : h[b]? = some (.inr (nX2, fs))) {H : Heap} (hR : nd_R g h H) : ∃ (kA : Class) (comp : ClassId) (kc : Class) (cv : Cell) (kv : Class), X.2.2.1.vm.classes[nd_tc g 10]? = some kA ∧ kA.kind = .array comp (.object "java/lang/Object") ∧ X.2.2.1.vm.classes[comp]? = some kc ∧ H[nd_z g + b]? = some cv ∧ (∀ q, cv.vm ≠ .statics q) ∧ X.2.2.1.vm.classes[cv.cls]? = some kv ∧ X.2.2.1.vm.assignable cv.cls comp = true := by
  obtain ⟨cv, g1, g2, g3⟩ := nd_recv (r := (RX2, TX2, 5)) hC hR hb rfl
  obtain ⟨kA, comp, k1, k2, k3, -⟩ := nd_ara hC (k := 10) rfl
  obtain ⟨kE, hkE, -⟩ := Vm.findClass_spec k3
  obtain ⟨kV, hkV, -⟩ := Vm.findClass_spec g3
  obtain ⟨c0, t1, f1, f2, f3⟩ := Cond.castable_spec (nd_face hC q3504 rfl rfl)
  cases g3.symm.trans f1
  cases k3.symm.trans f2
  exact ⟨kA, comp, kE, cv, kV, k1, k2, hkE, g1, (fun q z => by rw [z] at g2; cases g2), hkV, f3⟩
theorem nd_astO (hC : nd_Cx g mm X) {b n j v : Nat} {f : Nat → Value} {fs : List Value} (hb : h[b]? = some (.inl (10, n, .inr (.inr f)))) (hv : h[v]? = some (.inr (nX2, fs))) (hj : j < n) (hn : n ≤ 2147483647) (hd : decode mm.2.1 pc = .ok (.aastore, 1)) (k : nd_W g mm d mc ms K X (pc + 1) lv st (h.set b (.inl (10, n, .inr (.inr (va_up f j (.ref v)))))) cs ss) : nd_W g mm d mc ms K X pc lv (.ref v :: .int (nI j) :: .ref b :: st) h cs ss :=
  nd_aastoreR hC (ty := 10) rfl rfl hb (nI_toInt (by omega)) hj (fun H hR => nd_objAs hC hv hR) hd k
theorem nd_astN (hC : nd_Cx g mm X) {b n j : Nat} {f : Nat → Value} (hb : h[b]? = some (.inl (10, n, .inr (.inr f)))) (hj : j < n) (hn : n ≤ 2147483647) (hd : decode mm.2.1 pc = .ok (.aastore, 1)) (k : nd_W g mm d mc ms K X (pc + 1) lv st (h.set b (.inl (10, n, .inr (.inr (va_up f j .null))))) cs ss) : nd_W g mm d mc ms K X pc lv (.null :: .int (nI j) :: .ref b :: st) h cs ss := by
  intro H ls locs hl hR hS
  have hij : (nI j).toInt = (j : Int) := nI_toInt (by omega)
  have hin := nd_inn hij hj
  have e9 := nd_toNat hij
  refine va_WaastN (C := "java/lang/Object") hC.1 hC.2.1 (hR.2.2 b _ hb) (nd_aof hC (k := 10) rfl n _) (fun z => by cases z) (by show ¬ (_ < 0 ∨ (arrV _ _ _).slots.size ≤ _); rw [arrV_size]; exact hin) rfl rfl hd fun H1 e z oq => ?_
  refine k H1 ls _ hl (hR.set z oq ?_) (nd_S.put hS z oq)
  show H1[nd_z g + b]? = some (arrV (nd_tc g 10) n (fun q => nd_v g (va_up f j .null q)))
  rw [e]
  show some ((arrV (nd_tc g 10) n (fun q => nd_v g (f q))).setSlot _ _) = _
  rw [arrV_store, e9]
  congr 2
  funext q
  by_cases hq : q = j
  · subst hq
    simp [updV, va_up, nd_v]
  · simp [updV, va_up, hq]
theorem nd_copyS (hC : nd_Cx g mm X) {index b n0 sp dp n : Nat} {rest : List Value} {f : Nat → Value} (hlink : Cond.methodLink mm.1.cls index arraycopyName ∈ lw_all) (hb0 : h[b]? = some (.inl (10, n0, .inr (.inr f)))) (h4 : sp + n ≤ n0) (h5 : dp + n ≤ n0) (hs0 : n0 ≤ 2147483647) (hel : ∀ i, i < n → ∃ v fs, f (sp + i) = .ref v ∧ h[v]? = some (.inr (nX2, fs))) (hrest : (rest.map nd_cn).sum ≤ 8) (hd : decode mm.2.1 pc = .ok (.invokestatic index, 3))
    (kk : nd_W g mm d mc ms K X (pc + 3) lv rest (h.set b (.inl (10, n0, .inr (.inr (va_cpy f f sp dp n))))) cs ss) : nd_W g mm d mc ms K X pc lv (.int (nI n) :: .int (nI dp) :: .ref b :: .int (nI sp) :: .ref b :: rest) h cs ss := by
  intro H ls locs hl hR hS T hT Xs
  have nn : ∀ z : Nat, z < 2147483648 → ¬ nI z < 0 := by
    intro z hz
    rw [Int32.lt_iff_toInt_lt, nI_toInt hz]
    show ¬ (z : Int) < 0
    omega
  have hc0 : H[nd_z g + b]? = some (arrV (nd_tc g 10) n0 (fun j => nd_v g (f j))) := hR.2.2 b _ hb0
  obtain ⟨-, k0, hk0, cm0, hkk0⟩ := nd_aof hC (k := 10) rfl n0 (fun j => nd_v g (f j))
  obtain ⟨vm', X', step⟩ := Xs.arraycopy hC.1 hC.own (hC.hts _ hlink) (hC.hts _ q655) (hC.hts _ q654) (hC.hts _ q176) (src := nd_z g + b) (dst := nd_z g + b) (cs := arrV (nd_tc g 10) n0 (fun j => nd_v g (f j))) (cd := arrV (nd_tc g 10) n0 (fun j => nd_v g (f j))) (srcPos := nI sp) (destPos := nI dp) (n := nI n) (by rw [hT]; exact hc0) (by rw [hT]; exact hc0)
    (fun _ h => by cases h) (fun _ h => by cases h) (fun h => by cases h) (fun h => by cases h) hk0 hk0 hkk0 hkk0 (by rfl) (nn _ (by omega)) (nn _ (by omega)) (nn _ (by omega))
    (by rw [nI_toInt (by omega), nI_toInt (by omega), arrV_size]; omega)
    (by rw [nI_toInt (by omega), nI_toInt (by omega), arrV_size]; omega)
    (fun vm₁ hal i hi => by
      rw [nI_cl (by omega)] at hi
      obtain ⟨v, fs, ev, hv⟩ := hel i hi
      have e : (arrV (nd_tc g 10) n0 (fun j => nd_v g (f j))).slots.getD ((nI sp).toNatClampNeg + i) .null = .ref (nd_z g + v) := by
        rw [nI_cl (by omega), Array.getD_eq_getD_getElem?, arrV_read _ _ (by omega), ev]
        rfl
      rw [e]
      obtain ⟨kA, comp, kc, cv, kv, r1, r2, r3, r4, r5, r6, r7⟩ := nd_objAs hC hv hR
      cases hk0.symm.trans r1
      cases hkk0.symm.trans r2
      obtain ⟨kC', hkC', -⟩ := hal.2.2 _ _ r6
      obtain ⟨kE', hkE', -⟩ := hal.2.2 _ _ r3
      refine ⟨rfl, cv, (show T.heap[nd_z g + v]? = some cv by rw [hT]; exact r4), r5, ⟨kC', hkC'⟩, ⟨kE', hkE'⟩, ?_⟩
      show vm₁.assignable _ _ = true
      rw [hal.assignable]
      exact r7)
    (g := F0 X.2.2.2.1 pc ls (List.map (nd_v g) (.int (nI n) :: .int (nI dp) :: .ref b :: .int (nI sp) :: .ref b :: rest))) rfl (by rw [hC.ml]; exact hl.1) (rest := List.map (nd_v g) rest) rfl (by rw [hC.2.1]; exact hd) (by show 1 ≤ d + 20; omega) (by
      have h9 := nd_cn_sum hC.ok rest
      have h10 : nativeFrameWords "java/lang/System" "arraycopy" 5 + 11 ≤ 10000 := by decide +kernel
      show 2 * 0 + ((rest.map (nd_v g)).map fun v => v.category).sum + _ ≤ 64 * d + 10300
      omega)
  have e1 : copied (arrV (nd_tc g 10) n0 (fun j => nd_v g (f j))) (arrV (nd_tc g 10) n0 (fun j => nd_v g (f j))) (nI sp) (nI dp) (nI n) = arrV (nd_tc g 10) n0 (fun j => nd_v g (va_cpy f f sp dp n j)) := by
    have e9 := va_copied (fun z => nd_v g z) (nd_tc g 10) (nd_tc g 10) (n0 := n0) (n1 := n0) (dp := dp) f f h4
    show (arrV (nd_tc g 10) n0 (fun j => nd_v g (f j))).storeRun (nI dp).toNatClampNeg ((arrV (nd_tc g 10) n0 (fun j => nd_v g (f j))).stretch (nI sp).toNatClampNeg (nI n).toNatClampNeg) = _
    rw [nI_cl (k := dp) (by omega), nI_cl (k := sp) (by omega), nI_cl (k := n) (by omega)]
    exact e9
  rw [e1] at X' step
  have hl9 : nd_z g + b < H.size := (Array.getElem?_eq_some_iff.mp hc0).1
  have hheap : ((T.setVm vm').setCell (nd_z g + b) (arrV (nd_tc g 10) n0 (fun j => nd_v g (va_cpy f f sp dp n j)))).heap = H.setIfInBounds (nd_z g + b) (arrV (nd_tc g 10) n0 (fun j => nd_v g (va_cpy f f sp dp n j))) := by rw [← hT]; rfl
  have oq : ∀ q : Nat, q ≠ nd_z g + b → (H.setIfInBounds (nd_z g + b) (arrV (nd_tc g 10) n0 (fun j => nd_v g (va_cpy f f sp dp n j))))[q]? = H[q]? := fun q hq => by simp [Array.getElem?_setIfInBounds, Ne.symm hq]
  have hR2 : nd_R g (h.set b (.inl (10, n0, .inr (.inr (va_cpy f f sp dp n))))) (H.setIfInBounds (nd_z g + b) (arrV (nd_tc g 10) n0 (fun j => nd_v g (va_cpy f f sp dp n j)))) := hR.set (by simp) oq (by
    show (H.setIfInBounds (nd_z g + b) _)[nd_z g + b]? = some (arrV (nd_tc g 10) n0 (fun j => nd_v g (va_cpy f f sp dp n j)))
    simp [Array.getElem?_setIfInBounds, hl9])
  obtain ⟨t, a1, b2⟩ := kk _ ls _ hl hR2 ⟨by simp; exact hS.1, fun q g1 g2 => by
      rw [oq q (fun e => g2 (by rw [e]; exact Nat.le_add_right _ _))]
      exact hS.2.1 q g1 g2, fun q hq => by
      rcases List.mem_append.mp hq with z | z
      · exact hS.2.2 q z
      · obtain ⟨y, -, hy⟩ := List.mem_map.mp z
        rw [← hy]
        exact Nat.le_add_right _ _⟩ _ hheap X'
  exact ⟨t, step t a1, b2⟩
end CP61

