set_option maxRecDepth 100000
/-! ===== images ===== -/
theorem nd4 {a b c e x : List Nat} {L : Nat} (h : (a ++ (b ++ (c ++ e))).Nodup) (hx : x.Nodup) (hxL : ∀ y ∈ x, L ≤ y) (hL : ∀ y ∈ a ++ (b ++ (c ++ e)), y < L) : (a ++ (x ++ (c ++ e))).Nodup ∧ (a ++ (b ++ (x ++ e))).Nodup ∧ (a ++ (b ++ (c ++ x))).Nodup ∧ (x ++ (b ++ (c ++ e))).Nodup := by
  have hne : ∀ y ∈ x, ∀ z ∈ a ++ (b ++ (c ++ e)), y ≠ z := fun y hy z hz q => by
    have h1 := hxL y hy
    have h2 := hL z hz
    omega
  simp only [List.nodup_append, List.mem_append] at h hne ⊢
  grind
theorem cw_K.lt {o : Nat → Nat} {nap : Nat} {ds : List Nat} {gi : Nat → Value} {dss : Nat → List Nat} {S : sy_S} {h : nd_H} (H : cw_K o nap ds gi dss S h) : ∀ y ∈ ds ++ (dss 0 ++ (dss 1 ++ dss 2)), y < h.length := by
  intro y hy
  have q := (H.blk hy).2 0 (by omega)
  obtain ⟨-, -, -, -, -, -, -, -, -, -, a12⟩ := H
  exact (a12 (y + 0) (by omega)).1
theorem cw_K.im {o o2 : Nat → Nat} {nap : Nat} {ds ds2 : List Nat} {gi gi2 : Nat → Value} {dss : Nat → List Nat} {S : sy_S} {h h2 : nd_H} (H : cw_K o nap ds gi dss S h) {i : Nat} (hi : i < 3) (hoo : ∀ a, o a ≠ 0 → o2 a = o a) (ho2 : ∀ a, o2 a ≠ 0 → a < h2.length ∧ ((2 ≤ a ∧ a ≤ 5) ∨ 123 ≤ a)) (hf : ∀ a c, h[a]? = some c → o a ≠ 10 + i → a ≠ 91 → h2[a]? = some c) (h91 : h2[91]? = some (.inl (7, 3, .inr (.inr gi2)))) (hg2 : ∀ j, j < 3 → j ≠ i → gi2 j = gi j) (him : cw_im o2 h2 i (gi2 i) (some (sy_p S)) ds2) (hnd : (ds ++ ((if 0 = i then ds2 else dss 0) ++ ((if 1 = i then ds2 else dss 1) ++ (if 2 = i then ds2 else dss 2)))).Nodup) : cw_K o2 nap ds gi2 (fun j => if j = i then ds2 else dss j) (sy_im S i) h2 := by
  have H0 := H
  obtain ⟨⟨x, a1⟩, a2, ⟨c1, c2, c3, c4, c5⟩, a4, a5, a6, a7, a8, ⟨tf, a9, a10⟩, a11, a12⟩ := H
  have kl : ∀ a c, h[a]? = some c → a < 123 → ¬ (2 ≤ a ∧ a ≤ 5) → a ≠ 91 → h2[a]? = some c := fun a c e z1 z2 z3 => hf a c e (by rw [H0.lo z1 z2]; omega) z3
  have ko : ∀ a c, h[a]? = some c → o a ≠ 0 → o a ≠ 10 + i → h2[a]? = some c := fun a c e z1 z2 => hf a c e z2 (by have := a12 a z1; omega)
  refine ⟨⟨x, kl _ _ a1 (by omega) (by omega) (by omega)⟩, kl _ _ a2 (by omega) (by omega) (by omega), ⟨c1.kp (fun a ha => (a12 a ha).1) hoo (fun a c z e => ko a c e (by omega) (by omega)), c2.kp (fun i c hi hi2 e => kl _ c e (by omega) (by omega) (by omega)), c3.kp (by omega) hoo (fun c e => kl _ c e (by omega) (by omega) (by omega)) (fun a c z e => ko a c e (by omega) (by omega)), c4, fun i hi => (c5 i hi).kp hoo (fun b c z e => ko b c e (by omega) (by have := (c5 i hi).1; omega))⟩, h91, fun j hj => ?_, hnd, kl _ _ a7 (by omega) (by omega) (by omega), fun s hs => ?_, ⟨tf, kl _ _ a9 (by omega) (by omega) (by omega), a10⟩, kl _ _ a11 (by omega) (by omega) (by omega), ho2⟩
  · show cw_im o2 h2 j (gi2 j) (if j = i then some (sy_p S) else sy_i S j) (if j = i then ds2 else dss j)
    by_cases e : j = i
    · subst e; rw [if_pos rfl, if_pos rfl]; exact him
    · rw [if_neg e, if_neg e, hg2 j hj e]
      have hb : ∀ b ∈ dss j, 123 ≤ b := fun b hb => by
        refine (H0.blk (b := b) ?_).1
        match j, hj with
        | 0, _ => exact List.mem_append_right _ (List.mem_append_left _ hb)
        | 1, _ => exact List.mem_append_right _ (List.mem_append_right _ (List.mem_append_left _ hb))
        | 2, _ => exact List.mem_append_right _ (List.mem_append_right _ (List.mem_append_right _ hb))
      refine (a5 j hj).kp (fun a ha => (a12 a ha).1) hoo (fun a c e2 z => ?_)
      rcases z with z | z | ⟨b, zb, z⟩
      · exact ko a c e2 (by omega) (by omega)
      · exact ko a c e2 (by omega) (by omega)
      · exact ko a c e2 (by omega) (by have := hb b zb; omega)
  · refine (a8 s hs).kp hoo (fun a c e z => ?_)
    rcases z with z | z
    · exact kl a c e (by omega) (by omega) (by omega)
    · exact ko a c e (by omega) (by omega)
section CP94
variable {g : nd_G} {d : Nat} {K : nd_K} {h : nd_H} {o : Nat → Nat} {nap : Nat} {ds : List Nat} {gi : Nat → Value} {dss : Nat → List Nat} {S : sy_S}
theorem ni_X40 (hg : nd_OK g) (hd : 6 ≤ d) {b : Nat} (hL : h.length = b + 1) (hb : h[b]? = some (.inr (nX40, [.null, .null, .null]))) (hk : ∀ h2 napD fr bk fo mn, h2.length = b + 10 → (∀ a, a < b → h2[a]? = h[a]?) → h2[b]? = some (.inr (nX40, [.ref (b + 1), .ref (b + 9), .ref 0])) → cs_S h2 (b + 1) napD fr bk fo mn → h2[b + 9]? = some (.inr (nJ2, [.int (nI 0), nd_f 201, .int (nI 0)])) → K (.inl none) h2) : nd_M g mX40_init d 9 41 [.ref b, .ref 0] h K := by
  have hlt := nd_get_lt hb
  refine nd_enter hg (by decide) rfl (Nat.le_of_ble_eq_true rfl) (fun X hC => ?_)
  refine nd_aload_n hC dX40_init_0 rfl rfl ?_
  refine nd_aload_n hC dX40_init_1 rfl rfl ?_
  refine nd_putF (ci := nX40) hC in_X40 rfl hb 2 (by decide) tyX40 tyX40_ok (by decide +kernel) q2634 (fun _ z => z) rfl rfl rfl rfl rfl (by show 2 < 3; decide) dX40_init_2 ?_
  refine nd_aload_n hC dX40_init_5 rfl rfl ?_
  refine nd_objInit hC q2627 q225 q226 (by exact Nat.le_of_ble_eq_true rfl) dX40_init_6 ?_
  show nd_W _ _ _ _ _ _ _ _ _ _ (h.set b (.inr (nX40, [.null, .null, .ref 0]))) _ _
  generalize z1 : h.set b (.inr (nX40, [.null, .null, .ref 0])) = h1
  have l1 : h1.length = b + 1 := by rw [← z1, List.length_set, hL]
  have b1 : h1[b]? = some (.inr (nX40, [.null, .null, .ref 0])) := by rw [← z1]; exact List.getElem?_set_self hlt
  have k1 : ∀ a, a < b → h1[a]? = h[a]? := fun a ha => by rw [← z1]; exact List.getElem?_set_ne (by omega)
  refine nd_aload_n hC dX40_init_9 rfl rfl ?_
  refine nd_new (ci := nX2) hC [.null, .null, .null, .null, .int 0] in_X2 rfl tyX2 tyX2_ok q2628 q228 q150 rfl rfl (by omega) (by omega) dX40_init_10 ?_
  rw [l1]
  refine nd_dup hC (by rfl) dX40_init_13 ?_
  refine nd_callIN (mm2 := mX2_init) (As := []) (mc2 := 7) (ms2 := 33) (d2 := d - 1) hC rfl rfl q231 q150 q2629 q230 rfl lmX2_init (Nat.le_of_ble_eq_true rfl) (by omega) rfl (by exact Nat.le_of_ble_eq_true rfl) (by omega) (by omega) dX40_init_14 rfl ((ni_X2 (b := b + 1) hg (by omega) (by rw [List.length_append, l1]; rfl) (by rw [← l1]; exact l_at_last) ?_))
  intro h2 g2 S2 n2 L2
  have l2 : h2.length = b + 9 := by rw [g2.1, List.length_append, l1]; rfl
  have k2 : ∀ a, a < b + 1 → h2[a]? = h1[a]? := fun a ha => (g2.2 a (by omega) (by rw [List.length_append, l1]; show a < b + 1 + 1; omega)).trans (List.getElem?_append_left (by omega))
  have b2 := (k2 b (by omega)).trans b1
  refine nd_putF (ci := nX40) hC in_X40 rfl b2 0 (by decide) tyX40 tyX40_ok (by decide +kernel) q2632 (fun _ z => z) rfl rfl rfl rfl rfl (by show 0 < 3; decide) dX40_init_17 ?_
  show nd_W _ _ _ _ _ _ _ _ _ _ (h2.set b (.inr (nX40, [.ref (b + 1), .null, .ref 0]))) _ _
  generalize z3 : h2.set b (.inr (nX40, [.ref (b + 1), .null, .ref 0])) = h3
  have l3 : h3.length = b + 9 := by rw [← z3, List.length_set, l2]
  have b3 : h3[b]? = some (.inr (nX40, [.ref (b + 1), .null, .ref 0])) := by rw [← z3]; exact List.getElem?_set_self (by omega)
  have k3 : ∀ a, a ≠ b → h3[a]? = h2[a]? := fun a ha => by rw [← z3]; exact List.getElem?_set_ne (Ne.symm ha)
  refine nd_aload_n hC dX40_init_20 rfl rfl ?_
  refine nd_new (ci := nJ2) hC [.int 0, .null, .int 0] in_J2 rfl tyJ2 tyJ2_ok q2630 q240 q154 rfl rfl (by omega) (by omega) dX40_init_21 ?_
  rw [l3]
  refine nd_dup hC (by rfl) dX40_init_24 ?_
  refine nd_callI (mm2 := mJ2_init) (As := []) (mc2 := 0) (ms2 := 0) (d2 := d - 1) hC rfl rfl q243 q154 q2631 q242 rfl lmJ2_init (Nat.le_of_ble_eq_true rfl) (by omega) rfl (by exact Nat.le_of_ble_eq_true rfl) (by omega) (by omega) dX40_init_25 rfl ((ni_J2 hg (by omega) (b := b + 9) (by rw [← l3]; exact l_at_last) ?_))
  rw [← l3, l_set_last, l3]
  have b4 : (h3 ++ [(.inr (nJ2, [.int (nI 0), .float 201, .int 0]) : nd_C)])[b]? = some (.inr (nX40, [.ref (b + 1), .null, .ref 0])) := (List.getElem?_append_left (by omega)).trans b3
  refine nd_putF (ci := nX40) hC in_X40 rfl b4 1 (by decide) tyX40 tyX40_ok (by decide +kernel) q2633 (fun _ z => z) rfl rfl rfl rfl rfl (by show 1 < 3; decide) dX40_init_28 ?_
  have kk : ∀ a, a ≠ b → a < b + 9 → ((h3 ++ [(.inr (nJ2, [.int (nI 0), .float 201, .int 0]) : nd_C)]).set b (.inr (nX40, [.ref (b + 1), .ref (b + 9), .ref 0])))[a]? = h2[a]? := fun a ha hl => by
    rw [List.getElem?_set_ne (Ne.symm ha), List.getElem?_append_left (by omega)]; exact k3 a ha
  refine nd_return hC rfl (by omega) (by omega) dX40_init_31 (hk _ _ _ _ _ _ (by rw [List.length_set, List.length_append, l3]; rfl) (fun a ha => (kk a (by omega) (by omega)).trans ((k2 a (by omega)).trans (k1 a ha))) (List.getElem?_set_self (by rw [List.length_append]; omega)) ⟨(kk _ (by omega) (by omega)).trans S2.1, (kk _ (by omega) (by omega)).trans S2.2.1, (kk _ (by omega) (by omega)).trans S2.2.2.1, (kk _ (by omega) (by omega)).trans S2.2.2.2⟩ ?_)
  rw [List.getElem?_set_ne (by omega), ← l3]; exact l_at_last
theorem cx_takes (hg : nd_OK g) (hd : 9 ≤ d) {tp fkd fat x : Int32} (hO : cx_O h tp fkd fat x) {P : sy_P} (hP : sp_ok P) (hkk : cw_k o h 1 90 2 nap P ds) (hol : ∀ a, o a ≠ 0 → a < h.length ∧ ((2 ≤ a ∧ a ≤ 5) ∨ 123 ≤ a)) (hl : 123 ≤ h.length) {b i napD er0 : Nat} {fr bk fo : Nat → Int32} {mn : Int32} {dsT : List Nat} (hi : i < 3) (hb123 : 123 ≤ b) (hbo : ∀ j, j < 10 → o (b + j) = 10 + i) (hb : h[b]? = some (.inr (nX40, [.ref (b + 1), .ref (b + 9), .ref 0]))) (hD : cs_S h (b + 1) napD fr bk fo mn) (hT : cw_lr o h (b + 9) (10 + i) dsT er0) (h10 : dsT.length ≤ 10)
    (hk : ∀ h1 h2 o2 er ds2, cs_fr (b + 1) h h1 → cs_st h1 (b + 1) nap P.2.1 → (er0 = 0 ∨ ¬ (er0 = b ∨ er0 = b + 1 ∨ (b + 6 ≤ er0 ∧ er0 < b + 9))) → cq_I o h1 (b + 9) (10 + i) nap er0 er o2 h2 ds2 P.2.2 → K (.inl none) h2) : nd_M g mX40_takes d 92 500 [.ref b] h K := by
  obtain ⟨c1, c2, c3, c4, c5⟩ := id hkk
  obtain ⟨sfr, sbk, sfo, smn, hSt, -⟩ := id c2
  have hOu := hO
  unfold cx_O at hOu
  have o90 : o 90 = 0 := Classical.byContradiction (fun z => by have := (hol 90 z).2; omega)
  refine nd_enter hg (by decide) rfl (Nat.le_of_ble_eq_true rfl) (fun X hC => ?_)
  refine nd_aload_n hC dX40_takes_0 rfl rfl ?_
  refine nd_get (ci := nX40) hC in_X40 rfl hb 0 (by decide) q2632 (fun _ z => z) rfl dX40_takes_1 ?_
  refine nd_aload_n hC dX40_takes_4 rfl rfl ?_
  refine nd_get (ci := nX40) hC in_X40 rfl hb 2 (by decide) q2634 (fun _ z => z) rfl dX40_takes_5 ?_
  refine nd_getN (ci := nX1) hC in_X1 rfl hOu 0 (by decide) q381 (fun _ z => z) rfl dX40_takes_8 ?_
  refine nd_callV (mm2 := mX2_become) (As := [_]) (mc2 := 0) (ms2 := 0) (d2 := d - 1) hC rfl lkX40_32 ⟨rfl, lmX2_become⟩ (hD.1) rfl (Nat.le_of_ble_eq_true rfl) (by omega) rfl (by exact Nat.le_of_ble_eq_true rfl) (by omega) (by omega) dX40_takes_11 rfl ((cs_become hg c2 hD (by omega) hP.2.1 hP.1.1 ?_))
  intro h1 f1 s1
  have kb : ∀ a, o a ≠ 10 + i → h1[a]? = h[a]? := fun a ha => f1.2 a (fun z => ha (by
    have e : a = b + (a - b) := by omega
    rw [e]; exact hbo _ (by omega)))
  have hb1 := (f1.2 b (by omega)).trans hb
  have hO1 := (f1.2 0 (by omega)).trans hOu
  have F1 : cw_l o h1 90 2 ds := c3.kp (by omega) (fun _ _ => rfl) (fun c e => (f1.2 90 (by omega)).trans e) (fun a c z e => (kb a (by omega)).trans e)
  have hne : er0 = 0 ∨ ¬ (er0 = b ∨ er0 = b + 1 ∨ (b + 6 ≤ er0 ∧ er0 < b + 9)) := by
    rcases hT with ⟨-, e0, -⟩ | ⟨m, gf, -, -, -, y4, -⟩
    · exact Or.inl e0
    · refine Or.inr (fun z => ?_)
      have nx : ∀ a c, h[a]? = some c → er0 = a → c = .inl (10, 10, .inr (.inr gf)) := fun a c e z => by
        rw [z, e] at y4
        exact Option.some.inj y4
      rcases z with z | z | z
      · exact nomatch nx _ _ hb z
      · exact nomatch nx _ _ hD.1 z
      · obtain z | z | z : er0 = b + 6 ∨ er0 = b + 7 ∨ er0 = b + 8 := by omega
        · have q := nx _ _ hD.2.1 (by omega)
          simp at q
        · have q := nx _ _ hD.2.2.1 (by omega)
          simp at q
        · have q := nx _ _ hD.2.2.2 (by omega)
          simp at q
  have T1 : cw_lr o h1 (b + 9) (10 + i) dsT er0 := hT.kp (fun _ _ => rfl) (fun c e => (f1.2 _ (by omega)).trans e) (fun c _ _ e => (f1.2 er0 (by omega)).trans e)
  obtain ⟨mF, eF, zF, rF⟩ : ∃ m e z, h1[90]? = some (.inr (nJ2, [.int m, e, .int z])) := by
    obtain ⟨er9, H9⟩ := F1.r
    exact H9.at
  refine nd_aload_n hC dX40_takes_14 rfl rfl ?_
  refine nd_get (ci := nX40) hC in_X40 rfl hb1 2 (by decide) q2634 (fun _ z => z) rfl dX40_takes_15 ?_
  refine nd_getN (ci := nX1) hC in_X1 rfl hO1 3 (by decide) q388 (fun _ z => z) rfl dX40_takes_18 ?_
  refine nd_aload_n hC dX40_takes_21 rfl rfl ?_
  refine nd_get (ci := nX40) hC in_X40 rfl hb1 1 (by decide) q2633 (fun _ z => z) rfl dX40_takes_22 ?_
  refine nd_callSN (mm2 := mX1_copies) (As := [_, _]) (mc2 := 92) (ms2 := 500) (d2 := d - 1) hC rfl q2649 q149 q2647 q2648 lmX1_copies (Nat.le_of_ble_eq_true rfl) (by omega) rfl (by exact Nat.le_of_ble_eq_true rfl) (by omega) (by omega) dX40_takes_25 rfl ((cx_copies (o := o) (FA := 90) (TA := b + 9) (τF := 2) (τT := 10 + i) (nap := nap) (n := nk_n P.1) (er0 := er0) (dsF := ds) (dsT := dsT) (ps := P.2.2) hg (by omega) (by rw [f1.1]; exact hl) (fun a ha => by rw [f1.1]; exact (hol a ha).1) (by omega) (by omega) (by omega) (by omega) (by omega) (by omega) (by omega) (by omega) (by rw [hbo 9 (by omega)]; omega) (by rw [f1.1]; exact (hol _ (by rw [hbo 9 (by omega)]; omega)).1) (Or.inr (hbo 9 (by omega))) hP.1.1 F1 T1 (by have : P.2.2.length ≤ 10 := hP.2.2.1; omega) h10 c4 (fun j hj => (c5 j hj).kp (fun _ _ => rfl) (fun a c z e => (kb a (by have := (c5 j hj).1; omega)).trans e)) (fun s hs => hP.2.2.2 s hs) ?_ (fun h2 o2 er ds2 HI => ?_)))
  · rcases hT with ⟨-, e0, -⟩ | ⟨m, gf, -, e2, -⟩
    · exact Or.inl e0
    · exact Or.inr (by omega)
  · refine nd_return hC rfl (by omega) (by omega) dX40_takes_28 ((hk h1 h2 o2 er ds2 f1 s1 hne HI))
theorem cx_gives (hg : nd_OK g) (hd : 9 ≤ d) {tp fkd fat x : Int32} (hO : cx_O h tp fkd fat x) {P : sy_P} (hP : sp_ok P) {b i napI napD er0 : Nat} {sD : sv} {dsI : List Nat} (hi : i < 3) (hb123 : 123 ≤ b) (hbo : ∀ j, j < 10 → o (b + j) = 10 + i) (hb : h[b]? = some (.inr (nX40, [.ref (b + 1), .ref (b + 9), .ref 0]))) (hkk : cw_k o h (b + 1) (b + 9) (10 + i) napI P dsI) (hol : ∀ a, o a ≠ 0 → a < h.length ∧ ((2 ≤ a ∧ a ≤ 5) ∨ 123 ≤ a)) (hl : 123 ≤ h.length) (hD : cs_st h 1 napD sD) (hT : cw_lr o h 90 2 ds er0) (h10 : ds.length ≤ 10)
    (hk : ∀ h1 h2 o2 er ds2, cs_fr 1 h h1 → cs_st h1 1 napI P.2.1 → cq_I o h1 90 2 napI er0 er o2 h2 ds2 P.2.2 → K (.inl none) h2) : nd_M g mX40_gives d 92 500 [.ref b] h K := by
  obtain ⟨c1, c2, c3, c4, c5⟩ := id hkk
  obtain ⟨fr, bk, fo, mn, hDS, -⟩ := id hD
  obtain ⟨sfr, sbk, sfo, smn, hSt, -⟩ := id c2
  have hOu := hO
  unfold cx_O at hOu
  have o90 : o 90 = 0 := Classical.byContradiction (fun z => by have := (hol 90 z).2; omega)
  refine nd_enter hg (by decide) rfl (Nat.le_of_ble_eq_true rfl) (fun X hC => ?_)
  refine nd_aload_n hC dX40_gives_0 rfl rfl ?_
  refine nd_get (ci := nX40) hC in_X40 rfl hb 2 (by decide) q2634 (fun _ z => z) rfl dX40_gives_1 ?_
  refine nd_getN (ci := nX1) hC in_X1 rfl hOu 0 (by decide) q381 (fun _ z => z) rfl dX40_gives_4 ?_
  refine nd_aload_n hC dX40_gives_7 rfl rfl ?_
  refine nd_get (ci := nX40) hC in_X40 rfl hb 0 (by decide) q2632 (fun _ z => z) rfl dX40_gives_8 ?_
  refine nd_callV (mm2 := mX2_become) (As := [_]) (mc2 := 0) (ms2 := 0) (d2 := d - 1) hC rfl lkX40_32 ⟨rfl, lmX2_become⟩ (hDS.1) rfl (Nat.le_of_ble_eq_true rfl) (by omega) rfl (by exact Nat.le_of_ble_eq_true rfl) (by omega) (by omega) dX40_gives_11 rfl ((cs_become hg c2 hDS (by omega) hP.2.1 hP.1.1 ?_))
  intro h1 f1 s1
  have kb : ∀ a, o a ≠ 0 → h1[a]? = h[a]? := fun a ha => f1.2 a (by have := (hol a ha).2; omega)
  have hb1 := (f1.2 b (by omega)).trans hb
  have hO1 := (f1.2 0 (by omega)).trans hOu
  have F1 : cw_l o h1 (b + 9) (10 + i) dsI := c3.kp (by omega) (fun _ _ => rfl) (fun c e => (f1.2 _ (by omega)).trans e) (fun a c z e => (kb a (by omega)).trans e)
  have T1 : cw_lr o h1 90 2 ds er0 := hT.kp (fun _ _ => rfl) (fun c e => (f1.2 _ (by omega)).trans e) (fun c z1 z2 e => (kb er0 (by omega)).trans e)
  refine nd_aload_n hC dX40_gives_14 rfl rfl ?_
  refine nd_get (ci := nX40) hC in_X40 rfl hb1 1 (by decide) q2633 (fun _ z => z) rfl dX40_gives_15 ?_
  refine nd_aload_n hC dX40_gives_18 rfl rfl ?_
  refine nd_get (ci := nX40) hC in_X40 rfl hb1 2 (by decide) q2634 (fun _ z => z) rfl dX40_gives_19 ?_
  refine nd_getN (ci := nX1) hC in_X1 rfl hO1 3 (by decide) q388 (fun _ z => z) rfl dX40_gives_22 ?_
  refine nd_callSN (mm2 := mX1_copies) (As := [_, _]) (mc2 := 92) (ms2 := 500) (d2 := d - 1) hC rfl q2649 q149 q2647 q2648 lmX1_copies (Nat.le_of_ble_eq_true rfl) (by omega) rfl (by exact Nat.le_of_ble_eq_true rfl) (by omega) (by omega) dX40_gives_25 rfl ((cx_copies (o := o) (FA := b + 9) (TA := 90) (τF := 10 + i) (τT := 2) (nap := napI) (n := nk_n P.1) (er0 := er0) (dsF := dsI) (dsT := ds) (ps := P.2.2) hg (by omega) (by rw [f1.1]; exact hl) (fun a ha => by rw [f1.1]; exact (hol a ha).1) (by omega) (by omega) (by omega) (by omega) (by omega) (by omega) (by rw [hbo 9 (by omega)]; omega) (by rw [hbo 9 (by omega)]; omega) (by omega) (by rw [f1.1]; omega) (Or.inl o90) hP.1.1 F1 T1 (by have : P.2.2.length ≤ 10 := hP.2.2.1; omega) h10 c4 (fun j hj => (c5 j hj).kp (fun _ _ => rfl) (fun a c z e => (kb a (by omega)).trans e)) (fun s hs => hP.2.2.2 s hs) ?_ (fun h2 o2 er ds2 HI => ?_)))
  · rcases hT with ⟨-, e0, -⟩ | ⟨m, gf, e1, e2, -⟩
    · exact Or.inl e0
    · refine Or.inr (fun q => ?_)
      rw [← q, hbo 9 (by omega)] at e1
      omega
  · refine nd_return hC rfl (by omega) (by omega) dX40_gives_28 ((hk h1 h2 o2 er ds2 f1 s1 HI))
theorem cx_im35 (hg : nd_OK g) {X : nd_X} {mc ms cs ss : Nat} (hC : nd_Cx g mX1_image X) (hd : 10 ≤ d) (hS : sy_ok S) (hs : cw_S h) (hK : cw_K o nap ds gi dss S h) (hl123 : 123 ≤ h.length) {i : Nat} (hi : i < 3) {hc : nd_H} {oc : Nat → Nat} {gic : Nat → Value} {b napD : Nat} {fr bk fo : Nat → Int32} {mn : Int32} {dsT : List Nat} (hoo : ∀ a, a < h.length → oc a = o a) (hoc : ∀ a, oc a ≠ 0 → a < hc.length ∧ ((2 ≤ a ∧ a ≤ 5) ∨ 123 ≤ a)) (hlen : h.length ≤ hc.length) (hf : ∀ a c, h[a]? = some c → a ≠ 91 → hc[a]? = some c) (h91 : hc[91]? = some (.inl (7, 3, .inr (.inr gic)))) (hgi : gic i = .ref b) (hgj : ∀ j, j < 3 → j ≠ i → gic j = gi j)
    (hb123 : 123 ≤ b) (hbo : ∀ j, j < 10 → oc (b + j) = 10 + i) (hb : hc[b]? = some (.inr (nX40, [.ref (b + 1), .ref (b + 9), .ref 0]))) (hD : cs_S hc (b + 1) napD fr bk fo mn) (hT : cw_l oc hc (b + 9) (10 + i) dsT) (h10 : dsT.length ≤ 10) (hcs : cs + 92 ≤ mc) (hss : ss + 500 ≤ ms) (hk : ∀ h2, cw_I (sy_im S i) h2 → cw_fr h h2 → K (.inl none) h2) : nd_W g mX1_image d mc ms K X 35 [some (.ref 0), some (.int (nI i))] [] hc cs ss := by
  have K0 := hK
  obtain ⟨⟨x0, hO⟩, a2, ⟨c1, c2, c3, c4, c5⟩, a4, a5, a6, a7, a8, a9, a11, a12⟩ := id hK
  have hoo2 : ∀ a, o a ≠ 0 → oc a = o a := fun a ha => hoo a (a12 a ha).1
  have k91 : ∀ a, o a ≠ 0 → a ≠ 91 := fun a ha => by have := a12 a ha; omega
  have hO1 : cx_O hc (nI (sy_b S).length) (nI (sy_fk S)) (sy_fp S) x0 := hf _ _ hO (by omega)
  have hkk1 : cw_k oc hc 1 90 2 nap (sy_p S) ds := ⟨c1.kp (fun a ha => (a12 a ha).1) hoo2 (fun a c z e => hf a c e (k91 a (by omega))), c2.kp (fun j c hj _ e => hf _ c e (by omega)), c3.kp (by omega) hoo2 (fun c e => hf _ c e (by omega)) (fun a c z e => hf a c e (k91 a (by omega))), c4, fun j hj => (c5 j hj).kp hoo2 (fun a c z e => hf a c e (k91 a (by omega)))⟩
  obtain ⟨er0, hTr⟩ := hT.r
  have hOu := hO1
  unfold cx_O at hOu
  refine nd_aload_n hC dX1_image_35 rfl rfl ?_
  refine nd_get (ci := nX1) hC in_X1 rfl hOu 4 (by decide) q390 (fun _ z => z) rfl dX1_image_36 ?_
  refine nd_iload_n hC dX1_image_39 rfl ?_
  refine nd_aaloadN hC rfl rfl h91 (by omega) (by omega) dX1_image_40 ?_
  rw [hgi]
  refine nd_callV (mm2 := mX40_takes) (As := []) (mc2 := 92) (ms2 := 500) (d2 := d - 1) hC rfl lkX1_544 ⟨rfl, lmX40_takes⟩ (hb) rfl (Nat.le_of_ble_eq_true rfl) (by omega) rfl (by exact Nat.le_of_ble_eq_true rfl) (by omega) (by omega) dX1_image_41 rfl ((cx_takes (o := oc) hg (by omega) hO1 hS.1 hkk1 hoc (by omega) hi hb123 hbo hb hD hTr h10 (fun h1 h2 o2 er ds2 f1 s1 hne HI => ?_)))
  obtain ⟨⟨q1, q0⟩, q2, q3, q4, q5, q6, q7, q8, q9⟩ := HI
  have l1 : h1.length = hc.length := f1.1
  have hTow : er0 = 0 ∨ oc er0 = 10 + i := by
    rcases hTr with ⟨-, e0, -⟩ | ⟨m, gf, e1, -⟩
    · exact Or.inl e0
    · exact Or.inr e1
  have ko : ∀ a c, hc[a]? = some c → oc a ≠ 10 + i → h2[a]? = some c := fun a c e z => by
    have ha := nd_get_lt e
    rw [q9 a (by omega) (fun y => z (by rw [y]; exact hbo 9 (by omega))) (by
      rcases hTow with y | y
      · exact Or.inl y
      · exact Or.inr (fun w => z (by rw [w]; exact y))), f1.2 a (fun y => z (by
        have e2 : a = b + (a - b) := by omega
        rw [e2]; exact hbo _ (by omega)))]
    exact e
  have kb2 : ∀ j, j = 0 ∨ j = 1 ∨ (6 ≤ j ∧ j < 9) → h2[b + j]? = h1[b + j]? := fun j hj => q9 _ (by have := (hoc (b + j) (by rw [hbo j (by omega)]; omega)).1; omega) (by omega) (by omega)
  have him : cw_im o2 h2 i (gic i) (some (sy_p S)) ds2 := by
    refine ⟨b, nap, hgi, hb123, fun j hj => ?_, (kb2 0 (by omega)).trans ((f1.2 b (by omega)).trans hb), hkk1.1.kp (fun a ha => (hoc a ha).1) (fun a ha => q7 a (by rw [l1]; exact (hoc a ha).1)) (fun a c z e => ko a c e (by omega)), s1.kp (fun j c hj z e => ?_), q1.l, q2, q3⟩
    · rw [q7 _ (by rw [l1]; exact (hoc _ (by rw [hbo j hj]; omega)).1)]; exact hbo j hj
    · rw [Nat.add_assoc] at e ⊢
      exact (kb2 (1 + j) (by omega)).trans e
  have hnd4 := nd4 (x := ds2) (L := h.length) K0.2.2.2.2.2.1 q4 (fun y hy => by have := q5 y hy; omega) K0.lt
  refine nd_return hC rfl (by omega) (by omega) dX1_image_44 (hk h2 ⟨hs.kp (fun a ha => ?_), o2, nap, ds, gic, _, K0.im hi (fun a ha => (q7 a (by have := (a12 a ha).1; omega)).trans (hoo2 a ha)) (fun a ha => ?_) (fun a c e z1 z2 => ko a c (hf a c e z2) (by rw [hoo a (nd_get_lt e)]; exact z1)) (ko _ _ h91 (by rw [hoo 91 (by omega), K0.lo (by omega) (by omega)]; omega)) hgj him ?_⟩ ⟨by omega, fun a z1 z2 => ?_⟩)
  · have hal : a < h.length := by unfold cw_sc at ha; omega
    have e : h[a]? = some h[a] := List.getElem?_eq_getElem hal
    rw [e]
    exact ko a _ (hf a _ e (by unfold cw_sc at ha; omega)) (by
      rw [hoo a hal]
      have := K0.lo (a := a) (by unfold cw_sc at ha; omega) (by unfold cw_sc at ha; omega)
      omega)
  · have := q8 a ha
    by_cases z : a < h1.length
    · rw [q7 a z] at ha
      exact ⟨this.1, (hoc a ha).2⟩
    · omega
  · obtain rfl | rfl | rfl : i = 0 ∨ i = 1 ∨ i = 2 := by omega
    · exact hnd4.1
    · exact hnd4.2.1
    · exact hnd4.2.2.1
  · have hal : a < h.length := by omega
    have e : h[a]? = some h[a] := List.getElem?_eq_getElem hal
    rw [e]
    exact ko a _ (hf a _ e (by omega)) (by
      rw [hoo a hal]
      have := K0.lo (a := a) (by omega) (by omega)
      omega)


theorem cp_image (hg : nd_OK g) (hd : 12 ≤ d) (x : Int32) : cp_ok g mX1_image d 110 600 [.int x] (ex1 eNSE) (mp_v (op_image x)) := by
  intro S h K hS hI hl123 hk0 hk1
  obtain ⟨hs, o, nap, ds, gi, dss, hK⟩ := hI
  obtain ⟨⟨x0, hO⟩, h17, hkk, -⟩ := id hK
  unfold cx_O at hO
  have hok := sy_l_ok hS
  have hwd := lk_width hok
  have hn : sy_n S ≤ 6 := hS.1.1.1
  have h5 := sy_len5 hS
  obtain ⟨sfr, sbk, sfo, smn, hSt, hcv⟩ := id hkk.2.1
  obtain ⟨hSt1, hSt2, hSt3, hSt4⟩ := id hSt
  have hcv : cs_v sfr sbk sfo smn (sy_c S) := hcv
  have hsv : sv_ok (sy_n S) (sy_c S) := hS.1.2.1
  unfold mp_v op_image at hk0 hk1
  obtain ⟨-, -, -, a4, a5, -, -, -, -, -, a12⟩ := id hK
  refine nd_enter hg (by decide) rfl (Nat.le_of_ble_eq_true rfl) (fun X hC => ?_)
  refine nd_iload_n hC dX1_image_0 rfl ?_
  first | with_reducible refine nd_i2lN hC (by omega) dX1_image_1 ?_ | refine nd_i2l hC dX1_image_1 ?_
  refine nd_lconst hC (v := lN 0) (by rfl) dX1_image_2 ?_
  refine nd_ldc2 hC q2359 dX1_image_3 ?_
  refine nd_v_eq (y := .long (lN 2)) (by rfl) ?_
  refine nd_callS (mm2 := mX1_isIn) (As := [_, _, _]) (mc2 := 0) (ms2 := 0) (d2 := d - 1) hC rfl lkX1_106 lmX1_isIn (Nat.le_of_ble_eq_true rfl) (by omega) rfl (by exact Nat.le_of_ble_eq_true rfl) (by omega) (by omega) dX1_image_6 rfl ((ci_isIn hg ?_))
  have e : (decide (lN 0 ≤ x.toInt64) && decide (x.toInt64 ≤ lN 2)) = op_in x 0 2 := by
    unfold op_in
    rw [Bool.eq_iff_iff, Bool.and_eq_true, nd_lle, nd_lle, nd_tl, lN_toInt (by decide), lN_toInt (by decide), decide_eq_true_iff]
    omega
  rw [e]
  refine nd_callS (mm2 := mX1_there) (As := [_]) (mc2 := 1) (ms2 := 6) (d2 := d - 1) hC rfl lkX1_168 lmX1_there (Nat.le_of_ble_eq_true rfl) (by omega) rfl (by exact Nat.le_of_ble_eq_true rfl) (by omega) (by omega) dX1_image_9 rfl ((ci_there hg (fun hc => ?_) (fun hc n => ?_)))
  rotate_left
  · rw [if_neg (by rw [hc]; decide)] at hk1
    exact nd_out hC rfl (by omega) (by omega) (hk1 (Nat.succ_ne_zero _) _ _ ⟨hs.app, o, nap, ds, gi, dss, hK.f cw_f.rfl.app⟩ (cw_f.rfl.app.fr hl123))
  rw [if_pos hc] at hk0
  obtain ⟨i, hi9, rfl⟩ := op_in_nat hc
  have hi : i < 3 := by omega
  rw [nI_cl (by omega)] at hk0
  have M := a5 i hi
  unfold cw_im at M
  refine nd_aload_n hC dX1_image_12 rfl rfl ?_
  refine nd_get (ci := nX1) hC in_X1 rfl hO 4 (by decide) q390 (fun _ z => z) rfl dX1_image_13 ?_
  refine nd_iload_n hC dX1_image_16 rfl ?_
  refine nd_aaloadN hC rfl rfl a4 (by omega) (by omega) dX1_image_17 ?_
  cases eP : sy_i S i with
  | none =>
    rw [eP] at M
    obtain ⟨gn, -⟩ := M
    rw [gn]
    refine nd_nonnullN hC dX1_image_18 ?_
    refine nd_aload_n hC dX1_image_21 rfl rfl ?_
    refine nd_get (ci := nX1) hC in_X1 rfl hO 4 (by decide) q390 (fun _ z => z) rfl dX1_image_22 ?_
    refine nd_iload_n hC dX1_image_25 rfl ?_
    refine nd_new (ci := nX40) hC [.null, .null, .null] in_X40 rfl tyX40 tyX40_ok q354 q2623 q217 rfl rfl (by omega) (by omega) dX1_image_26 ?_
    refine nd_dup hC (by rfl) dX1_image_29 ?_
    refine nd_aload_n hC dX1_image_30 rfl rfl ?_
    refine nd_callIN (mm2 := mX40_init) (As := [_]) (mc2 := 9) (ms2 := 41) (d2 := d - 1) hC rfl rfl q2626 q217 q2624 q2625 rfl lmX40_init (Nat.le_of_ble_eq_true rfl) (by omega) rfl (by exact Nat.le_of_ble_eq_true rfl) (by omega) (by omega) dX1_image_31 rfl ((ni_X40 (b := h.length) hg (by omega) (by rw [List.length_append]; rfl) l_at_last ?_))
    intro h1 napD fr bk fo mn l1 k1 b1 S1 L1
    have k1' : ∀ a c, h[a]? = some c → h1[a]? = some c := fun a c e => (k1 a (nd_get_lt e)).trans ((List.getElem?_append_left (nd_get_lt e)).trans e)
    refine nd_astC hC (ty := 7) (ci := nX40) rfl rfl (k1' _ _ a4) b1 hi (by omega) dX1_image_34 ?_
    have u91 : ∀ a, a ≠ 91 → (h1.set 91 (.inl (7, 3, .inr (.inr (va_up gi i (.ref h.length))))))[a]? = h1[a]? := fun a ha => List.getElem?_set_ne (Ne.symm ha)
    refine cx_im35 hg hC (by omega) hS hs hK hl123 hi (oc := ow o h.length 10 (10 + i)) (gic := va_up gi i (.ref h.length)) (b := h.length) (dsT := []) (fun a ha => by unfold ow; rw [if_neg (by omega)]) (fun a ha => ?_) (by rw [List.length_set]; omega) (fun a c e z => (u91 a z).trans (k1' a c e)) (List.getElem?_set_self (by omega)) (va_up_s ..) (fun j _ hj => va_up_n _ _ hj) hl123 (fun j hj => by unfold ow; rw [if_pos (by omega)]) ((u91 _ (by omega)).trans b1) ⟨(u91 _ (by omega)).trans S1.1, (u91 _ (by omega)).trans S1.2.1, (u91 _ (by omega)).trans S1.2.2.1, (u91 _ (by omega)).trans S1.2.2.2⟩ (Or.inl ⟨rfl, _, (u91 _ (by omega)).trans L1⟩) (Nat.zero_le _) (by omega) (by omega) (fun h2 A B => hk0 rfl h2 A B)
    rw [List.length_set, l1]
    unfold ow at ha
    by_cases z : h.length ≤ a ∧ a < h.length + 10
    · omega
    · rw [if_neg z] at ha
      have := a12 a ha
      omega
  | some P =>
    rw [eP] at M
    obtain ⟨b, napI, gb, b123, bo, bb, ⟨d1, d2, d3, d4, d5⟩⟩ := M
    obtain ⟨fr, bk, fo, mn, hD, -⟩ := id d2
    have hPok := hS.2.1 i hi P eP
    rw [gb]
    refine nd_nonnull hC dX1_image_18 (tgt := 35) (by decide) ?_
    refine nd_widen (cs2 := 11) (ss2 := 60) (by omega) (by omega) ?_
    exact cx_im35 hg hC (by omega) hS hs hK hl123 hi (oc := o) (gic := gi) (b := b) (fun _ _ => rfl) a12 (Nat.le_refl _) (fun a c e _ => e) a4 gb (fun _ _ _ => rfl) b123 bo bb hD d3 (by have : P.2.2.length ≤ 10 := hPok.2.2.1; omega) (by omega) (by omega) (fun h2 A B => hk0 rfl h2 A B)
theorem cp_restore (hg : nd_OK g) (hd : 12 ≤ d) (x : Int32) : cp_ok g mX1_restore d 110 600 [.int x] (ex2 eNSE eISE) (mp_v (op_restore x)) := by
  intro S h K hS hI hl123 hk0 hk1
  obtain ⟨hs, o, nap, ds, gi, dss, hK⟩ := hI
  obtain ⟨⟨x0, hO⟩, h17, hkk, -⟩ := id hK
  unfold cx_O at hO
  have hok := sy_l_ok hS
  have hwd := lk_width hok
  have hn : sy_n S ≤ 6 := hS.1.1.1
  have h5 := sy_len5 hS
  obtain ⟨sfr, sbk, sfo, smn, hSt, hcv⟩ := id hkk.2.1
  obtain ⟨hSt1, hSt2, hSt3, hSt4⟩ := id hSt
  have hcv : cs_v sfr sbk sfo smn (sy_c S) := hcv
  have hsv : sv_ok (sy_n S) (sy_c S) := hS.1.2.1
  unfold mp_v op_restore at hk0 hk1
  have K0 := hK
  obtain ⟨-, -, ⟨c1, c2, c3, c4, c5⟩, a4, a5, a6, -, -, -, -, a12⟩ := id hK
  refine nd_enter hg (by decide) rfl (Nat.le_of_ble_eq_true rfl) (fun X hC => ?_)
  refine nd_iload_n hC dX1_restore_0 rfl ?_
  first | with_reducible refine nd_i2lN hC (by omega) dX1_restore_1 ?_ | refine nd_i2l hC dX1_restore_1 ?_
  refine nd_lconst hC (v := lN 0) (by rfl) dX1_restore_2 ?_
  refine nd_ldc2 hC q2359 dX1_restore_3 ?_
  refine nd_v_eq (y := .long (lN 2)) (by rfl) ?_
  refine nd_callS (mm2 := mX1_isIn) (As := [_, _, _]) (mc2 := 0) (ms2 := 0) (d2 := d - 1) hC rfl lkX1_106 lmX1_isIn (Nat.le_of_ble_eq_true rfl) (by omega) rfl (by exact Nat.le_of_ble_eq_true rfl) (by omega) (by omega) dX1_restore_6 rfl ((ci_isIn hg ?_))
  have e : (decide (lN 0 ≤ x.toInt64) && decide (x.toInt64 ≤ lN 2)) = op_in x 0 2 := by
    unfold op_in
    rw [Bool.eq_iff_iff, Bool.and_eq_true, nd_lle, nd_lle, nd_tl, lN_toInt (by decide), lN_toInt (by decide), decide_eq_true_iff]
    omega
  rw [e]
  refine nd_callS (mm2 := mX1_there) (As := [_]) (mc2 := 1) (ms2 := 6) (d2 := d - 1) hC rfl lkX1_168 lmX1_there (Nat.le_of_ble_eq_true rfl) (by omega) rfl (by exact Nat.le_of_ble_eq_true rfl) (by omega) (by omega) dX1_restore_9 rfl ((ci_there hg (fun hc => ?_) (fun hc n => ?_)))
  rotate_left
  · rw [if_neg (by rw [hc]; decide)] at hk1
    exact nd_out hC rfl (by omega) (by omega) (hk1 (Nat.succ_ne_zero _) _ _ ⟨hs.app, o, nap, ds, gi, dss, hK.f cw_f.rfl.app⟩ (cw_f.rfl.app.fr hl123))
  rw [if_pos hc] at hk0 hk1
  obtain ⟨i, hi9, rfl⟩ := op_in_nat hc
  have hi : i < 3 := by omega
  rw [nI_cl (by omega)] at hk0 hk1
  have M := a5 i hi
  unfold cw_im at M
  refine nd_aload_n hC dX1_restore_12 rfl rfl ?_
  refine nd_get (ci := nX1) hC in_X1 rfl hO 4 (by decide) q390 (fun _ z => z) rfl dX1_restore_13 ?_
  refine nd_iload_n hC dX1_restore_16 rfl ?_
  refine nd_aaloadN hC rfl rfl a4 (by omega) (by omega) dX1_restore_17 ?_
  cases eP : sy_i S i with
  | none =>
    rw [eP] at M hk1
    obtain ⟨gn, -⟩ := M
    rw [gn]
    refine nd_isnullN hC dX1_restore_18 (tgt := 25) (by decide) ?_
    refine nd_iconst hC (v := nI 0) (by rfl) dX1_restore_25 ?_
    refine nd_v_eq (y := .int (nd_b false)) (by rfl) ?_
    refine nd_callS (mm2 := mX1_can) (As := [_]) (mc2 := 1) (ms2 := 6) (d2 := d - 1) hC rfl lkX1_303 lmX1_can (Nat.le_of_ble_eq_true rfl) (by omega) rfl (by exact Nat.le_of_ble_eq_true rfl) (by omega) (by omega) dX1_restore_26 rfl ((ci_can hg (fun hc => nomatch hc) (fun hc n => ?_)))
    exact nd_out hC rfl (by omega) (by omega) (hk1 (Nat.succ_ne_zero _) _ _ ⟨hs.app, o, nap, ds, gi, dss, hK.f cw_f.rfl.app⟩ (cw_f.rfl.app.fr hl123))
  | some P =>
    rw [eP] at M hk0
    obtain ⟨b, napI, gb, b123, bo, bb, hkk2⟩ := M
    obtain ⟨d1, d2, d3, d4, d5⟩ := id hkk2
    have hPok := hS.2.1 i hi P eP
    rw [gb]
    refine nd_isnull hC dX1_restore_18 ?_
    refine nd_iconst hC (v := nI 1) (by rfl) dX1_restore_21 ?_
    refine nd_goto hC (tgt := 26) dX1_restore_22 (by decide) ?_
    refine nd_v_eq (y := .int (nd_b true)) (by rfl) ?_
    refine nd_callS (mm2 := mX1_can) (As := [_]) (mc2 := 1) (ms2 := 6) (d2 := d - 1) hC rfl lkX1_303 lmX1_can (Nat.le_of_ble_eq_true rfl) (by omega) rfl (by exact Nat.le_of_ble_eq_true rfl) (by omega) (by omega) dX1_restore_26 rfl ((ci_can hg (fun _ => ?_) (fun hc n => nomatch hc)))
    obtain ⟨er0, hTr⟩ := c3.r
    refine nd_aload_n hC dX1_restore_29 rfl rfl ?_
    refine nd_get (ci := nX1) hC in_X1 rfl hO 4 (by decide) q390 (fun _ z => z) rfl dX1_restore_30 ?_
    refine nd_iload_n hC dX1_restore_33 rfl ?_
    refine nd_aaloadN hC rfl rfl a4 (by omega) (by omega) dX1_restore_34 ?_
    rw [gb]
    have h10 : (sy_d S).length ≤ 10 := hS.1.2.2.1
    have c4 : ds.length = (sy_d S).length := c4
    refine nd_callV (mm2 := mX40_gives) (As := []) (mc2 := 92) (ms2 := 500) (d2 := d - 1) hC rfl lkX1_547 ⟨rfl, lmX40_gives⟩ (bb) rfl (Nat.le_of_ble_eq_true rfl) (by omega) rfl (by exact Nat.le_of_ble_eq_true rfl) (by omega) (by omega) dX1_restore_35 rfl ((cx_gives hg (by omega) (tp := nI (sy_b S).length) (fkd := nI (sy_fk S)) (fat := sy_fp S) (x := x0) hO hPok hi b123 bo bb hkk2 a12 hl123 c2 hTr (by omega) (fun h1 h2 o2 er ds2 f1 s1 HI => ?_)))
    obtain ⟨⟨q1, q0⟩, q2, q3, q4, q5, q6, q7, q8, q9⟩ := HI
    have l1 : h1.length = h.length := f1.1
    have hTow : er0 = 0 ∨ o er0 = 2 := by
      rcases hTr with ⟨-, e0, -⟩ | ⟨m, gf, e1, -⟩
      · exact Or.inl e0
      · exact Or.inr e1
    have er0l : er0 = 0 ∨ 123 ≤ er0 := by
      rcases hTr with ⟨-, e0, -⟩ | ⟨m, gf, -, e1, -⟩
      · exact Or.inl e0
      · exact Or.inr e1
    have kl : ∀ a, a < 123 → ¬ (a = 1 ∨ (6 ≤ a ∧ a < 9)) → a ≠ 90 → h2[a]? = h[a]? := fun a z1 z2 z3 => (q9 a (by omega) z3 (by omega)).trans (f1.2 a (by omega))
    have ko : ∀ a c, h[a]? = some c → o a ≠ 0 → o a ≠ 2 → h2[a]? = some c := fun a c e z1 z2 => by
      have ha := a12 a z1
      rw [q9 a (by omega) (by omega) (by
        rcases hTow with y | y
        · exact Or.inl y
        · exact Or.inr (fun w => z2 (by rw [w]; exact y))), f1.2 a (by omega)]
      exact e
    have hoo : ∀ a, o a ≠ 0 → o2 a = o a := fun a ha => q7 a (by rw [l1]; exact (a12 a ha).1)
    have hK2 : cw_K o2 napI ds2 gi dss (sy_set S P) h2 := by
      refine K0.mv hoo (fun a ha => ?_) ⟨x0, (kl 0 (by omega) (by omega) (by omega)).trans hO⟩ (fun a c e z => ?_) ⟨d1.kp (fun a ha => (a12 a ha).1) hoo (fun a c z e => ko a c e (by omega) (by omega)), s1.kp (fun j c hj z e => (q9 _ (by omega) (by omega) (by omega)).trans e), q1.l, q2, q3⟩ (nd4 (x := ds2) (L := h.length) a6 q4 (fun y hy => by have := q5 y hy; omega) K0.lt).2.2.2
      · have := q8 a ha
        by_cases z : a < h1.length
        · rw [q7 a z] at ha
          exact ⟨this.1, (a12 a ha).2⟩
        · omega
      · rcases z with z | z | z | z | z | ⟨b2, -, z2⟩
        · exact (kl a (by omega) (by omega) (by omega)).trans e
        · exact (kl a (by omega) (by omega) (by omega)).trans e
        · exact (kl a (by omega) (by omega) (by omega)).trans e
        · exact ko a c e (by omega) (by omega)
        · exact ko a c e (by omega) (by omega)
        · exact ko a c e (by omega) (by omega)
    refine nd_return hC rfl (by omega) (by omega) dX1_restore_38 ((hk0 rfl h2 ⟨hs.kp (fun a ha => kl a (by unfold cw_sc at ha; omega) (by unfold cw_sc at ha; omega) (by unfold cw_sc at ha; omega)), o2, napI, ds2, gi, dss, hK2⟩ ⟨by omega, fun a z1 z2 => kl a (by omega) (by omega) (by omega)⟩))
end CP94

