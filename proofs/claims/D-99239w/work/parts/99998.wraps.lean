set_option maxRecDepth 100000
/-! ===== the law's wrappers ===== -/
/-- what a wrapper leaves in out[0] -/
def wv (v : Option Value) (x : Int64) : Prop := match v with
  | some (.int a) => x = a.toInt64
  | some (.long a) => x = a
  | _ => True
def wp_ok (g : nd_G) (mm : nd_Mt) (d mc ms : Nat) (argv : List Value) (f : sy_S → Nat × Option Value × sy_S) : Prop :=
  ∀ (S : sy_S) (h : nd_H) (K : nd_K) (ov : Nat → Int64), sy_ok S → cw_I S h → 123 ≤ h.length → h[122]? = some (.inl (1, 1, .inr (.inl ov))) → (∀ h2 ov2, cw_I (f S).2.2 h2 → h.length ≤ h2.length → (∀ a, 101 ≤ a → a ≤ 121 → h2[a]? = h[a]?) → h2[122]? = some (.inl (1, 1, .inr (.inl ov2))) → ((f S).1 = 0 → wv (f S).2.1 (ov2 0)) → K (.inl (some (.int (nI (f S).1)))) h2) → nd_M g mm d mc ms argv h K
theorem cw_K.o122 {o : Nat → Nat} {nap : Nat} {ds : List Nat} {gi : Nat → Value} {dss : Nat → List Nat} {S : sy_S} {h h2 : nd_H} (H : cw_K o nap ds gi dss S h) (hlen : h2.length = h.length) (hf : ∀ a, a ≠ 122 → h2[a]? = h[a]?) : cw_K o nap ds gi dss S h2 := by
  have H0 := H
  obtain ⟨⟨x, a1⟩, a2, ⟨c1, c2, c3, c4, c5⟩, a4, a5, a6, a7, a8, ⟨tf, a9, a10⟩, a11, a12⟩ := H
  have kf : ∀ a c, h[a]? = some c → a ≠ 122 → h2[a]? = some c := fun a c e z1 => (hf a z1).trans e
  have ko : ∀ a c, h[a]? = some c → o a ≠ 0 → h2[a]? = some c := fun a c e z1 => kf a c e (by have := a12 a z1; omega)
  have hoo : ∀ a, o a ≠ 0 → o a = o a := fun _ _ => rfl
  refine ⟨⟨x, kf _ _ a1 (by omega)⟩, kf _ _ a2 (by omega), ⟨c1.kp (fun a ha => (a12 a ha).1) hoo (fun a c z e => ko a c e (by omega)), c2.kp (fun i c hi hi2 e => kf _ c e (by omega)), c3.kp (by omega) hoo (fun c e => kf _ c e (by omega)) (fun a c z e => ko a c e (by omega)), c4, fun i hi => (c5 i hi).kp hoo (fun b c z e => ko b c e (by omega))⟩, kf _ _ a4 (by omega), fun i hi => ?_, a6, kf _ _ a7 (by omega), fun s hs => ?_, ⟨tf, kf _ _ a9 (by omega), a10⟩, kf _ _ a11 (by omega), fun a ha => by rw [hlen]; exact a12 a ha⟩
  · refine (a5 i hi).kp (fun a ha => (a12 a ha).1) hoo (fun a c e z => ?_)
    rcases z with z | z | ⟨b, -, z⟩
    · exact ko a c e (by omega)
    · exact ko a c e (by omega)
    · exact ko a c e (by omega)
  · refine (a8 s hs).kp hoo (fun a c e z => ?_)
    rcases z with z | z
    · exact kf a c e (by omega)
    · exact ko a c e (by omega)
theorem cw_I.o122 {S : sy_S} {h : nd_H} {c : nd_C} (H : cw_I S h) : cw_I S (h.set 122 c) := by
  obtain ⟨hs, o, nap, ds, gi, dss, hK⟩ := H
  exact ⟨hs.set (by omega), o, nap, ds, gi, dss, hK.o122 List.length_set (fun a ha => List.getElem?_set_ne (Ne.symm ha))⟩
section WR98
variable {g : nd_G} {d : Nat}
theorem wb_napkin (p : Int32) (S : sy_S) : (op_napkin p S).1 ≤ 1 := by
  unfold op_napkin
  repeat' split
  all_goals try (unfold op_napT; repeat' split)
  all_goals first | exact Nat.zero_le _ | exact Nat.le_refl _ | (simp; done) | (simp; omega) | omega
theorem wx_napkin (hg : nd_OK g) (hd : 51 ≤ d) (p : Int32) : wp_ok g mX0_napkin d 1820 3700 [.ref 0, .int p, .ref 122] (mp_i (op_napkin p)) := by
  intro S h K ov hS hI hl hov hk
  obtain ⟨⟨x0, hO⟩, -⟩ : (∃ x, cx_O h (nI (sy_b S).length) (nI (sy_fk S)) (sy_fp S) x) ∧ True := by
    obtain ⟨-, o, nap, ds, gi, dss, hK⟩ := hI
    exact ⟨hK.1, trivial⟩
  unfold cx_O at hO
  have hbd := wb_napkin p S
  have hL0 : 122 < h.length := by omega
  refine nd_enterH _ hg (by decide) rfl (Nat.le_of_ble_eq_true rfl) (fun X hC => ?_)
  refine nd_aload_n hC dX0_napkin_0 rfl rfl ?_
  refine nd_iconst hC (v := nI 0) (by rfl) dX0_napkin_1 ?_
  refine nd_aload_n hC dX0_napkin_2 rfl rfl ?_
  refine nd_iload_n hC dX0_napkin_3 rfl ?_
  refine nd_callVX (mm2 := mX1_napkin) (As := [_]) (mc2 := 1820) (ms2 := 3700) (d2 := d - 1) hC rfl lkX0_7 ⟨rfl, lmX1_napkin⟩ (hO) rfl (Nat.le_of_ble_eq_true rfl) (by omega) rfl (by exact Nat.le_of_ble_eq_true rfl) (by omega) (by omega) dX0_napkin_4 rfl ((cp_napkin hg (by omega) p S h _ hS hI hl (fun e0 h2 I2 f2 => ?_) (fun e0 h2 k I2 f2 => ?_)))
  · have hov2 := (f2.2 122 (by omega) (by omega)).trans hov
    first | with_reducible refine nd_i2lN hC (by omega) dX0_napkin_7 ?_ | refine nd_i2l hC dX0_napkin_7 ?_
    refine nd_lastoreN (j := 0) (n := 1) hC hov2 (by omega) (by omega) dX0_napkin_8 ?_
    refine nd_goto hC (tgt := 15) dX0_napkin_9 (by decide) ?_
    refine nd_iconst hC (v := nI 0) (by rfl) dX0_napkin_15 ?_
    refine nd_ireturn hC rfl rfl (by omega) (by omega) dX0_napkin_16 ?_
    have l2 : 122 < h2.length := by have := f2.1; omega
    have e1 : (op_napkin p S).1 = 0 := e0
    suffices R : K (.inl (some (.int (nI (op_napkin p S).1)))) _ by
      rw [e1] at R
      exact R
    exact hk _ _ I2.o122 (by rw [List.length_set]; exact f2.1) (fun a z1 z2 => (List.getElem?_set_ne (by omega)).trans (f2.2 a z1 (by omega))) (List.getElem?_set_self l2) (fun _ => rfl)
  · have e0 : (op_napkin p S).1 ≠ 0 := e0
    have hov2 := (f2.2 122 (by omega) (by omega)).trans hov
    have q : (op_napkin p S).1 = 1 := by omega
    have R := hk h2 ov I2 f2.1 (fun a z1 z2 => f2.2 a z1 (by omega)) hov2 (fun y => absurd y e0)
    have R : K (.inl (some (.int (nI (op_napkin p S).1)))) h2 := R
    rw [q] at R
    show nd_T _ _ _ _ _ _ _ _ _ (ex1 eIAE (op_napkin p S).1) _ _ _ _
    rw [q]
    refine nd_catch hC (E := "java/lang/IllegalArgumentException") "java/lang/IllegalArgumentException" [] (0, 9, 12, 13) [] rfl rfl (fun z hz => ?_) (by decide) (by decide) q1529 q1109 ?_
    · exact absurd hz (List.not_mem_nil)
    refine nd_astore_n hC dX0_napkin_12 (Nat.le_of_ble_eq_true rfl) rfl ?_
    refine nd_iconst hC (v := nI 1) (by rfl) dX0_napkin_13 ?_
    exact nd_ireturn hC rfl rfl (by omega) (by omega) dX0_napkin_14 R
theorem wb_cell (x y : Int32) (S : sy_S) : (op_cell x y S).1 ≤ 2 := by
  have := ty_f_le x S
  have := mk_f_le x S
  have := cr_f_le x S
  have := sk_f_le x S
  have := sn_f_le x y S
  have := jd_f_le x y S
  unfold op_cell
  repeat' split
  all_goals first | exact Nat.zero_le _ | exact Nat.le_refl _ | (simp; done) | (simp; omega) | omega
theorem wx_cell (hg : nd_OK g) (hd : 7 ≤ d) (x y : Int32) : wp_ok g mX0_cell d 2 12 [.ref 0, .int x, .int y, .ref 122] (mp_i (op_cell x y)) := by
  intro S h K ov hS hI hl hov hk
  obtain ⟨⟨x0, hO⟩, -⟩ : (∃ x, cx_O h (nI (sy_b S).length) (nI (sy_fk S)) (sy_fp S) x) ∧ True := by
    obtain ⟨-, o, nap, ds, gi, dss, hK⟩ := hI
    exact ⟨hK.1, trivial⟩
  unfold cx_O at hO
  have hbd := wb_cell x y S
  have hL0 : 122 < h.length := by omega
  refine nd_enterH _ hg (by decide) rfl (Nat.le_of_ble_eq_true rfl) (fun X hC => ?_)
  refine nd_aload_n hC dX0_cell_0 rfl rfl ?_
  refine nd_iconst hC (v := nI 0) (by rfl) dX0_cell_1 ?_
  refine nd_aload_n hC dX0_cell_2 rfl rfl ?_
  refine nd_iload_n hC dX0_cell_3 rfl ?_
  refine nd_iload_n hC dX0_cell_4 rfl ?_
  refine nd_callV (mm2 := mX1_cell) (As := [_, _]) (mc2 := 2) (ms2 := 12) (d2 := d - 1) hC rfl lkX0_15 ⟨rfl, lmX1_cell⟩ (hO) rfl (Nat.le_of_ble_eq_true rfl) (by omega) rfl (by exact Nat.le_of_ble_eq_true rfl) (by omega) (by omega) dX0_cell_5 rfl ((cp_cell hg (by omega) x y S h _ hS hI hl (fun e0 h2 I2 f2 => ?_) (fun e0 h2 k I2 f2 => ?_)))
  · have hov2 := (f2.2 122 (by omega) (by omega)).trans hov
    first | with_reducible refine nd_i2lN hC (by omega) dX0_cell_8 ?_ | refine nd_i2l hC dX0_cell_8 ?_
    refine nd_lastoreN (j := 0) (n := 1) hC hov2 (by omega) (by omega) dX0_cell_9 ?_
    refine nd_goto hC (tgt := 21) dX0_cell_10 (by decide) ?_
    refine nd_iconst hC (v := nI 0) (by rfl) dX0_cell_21 ?_
    refine nd_ireturn hC rfl rfl (by omega) (by omega) dX0_cell_22 ?_
    have l2 : 122 < h2.length := by have := f2.1; omega
    have e1 : (op_cell x y S).1 = 0 := e0
    suffices R : K (.inl (some (.int (nI (op_cell x y S).1)))) _ by
      rw [e1] at R
      exact R
    exact hk _ _ I2.o122 (by rw [List.length_set]; exact f2.1) (fun a z1 z2 => (List.getElem?_set_ne (by omega)).trans (f2.2 a z1 (by omega))) (List.getElem?_set_self l2) (fun _ => rfl)
  · have e0 : (op_cell x y S).1 ≠ 0 := e0
    have hov2 := (f2.2 122 (by omega) (by omega)).trans hov
    rcases (show (op_cell x y S).1 = 1 ∨ (op_cell x y S).1 = 2 by omega) with qq | qq
    · have q : (op_cell x y S).1 = 1 := by omega
      have R := hk h2 ov I2 f2.1 (fun a z1 z2 => f2.2 a z1 (by omega)) hov2 (fun y => absurd y e0)
      have R : K (.inl (some (.int (nI (op_cell x y S).1)))) h2 := R
      rw [q] at R
      show nd_T _ _ _ _ _ _ _ _ _ (ex2 eNSE eIAE (op_cell x y S).1) _ _ _ _
      rw [q]
      refine nd_catch hC (E := "java/util/NoSuchElementException") "java/util/NoSuchElementException" [] (0, 10, 13, 19) [(0, 10, 17, 13)] rfl rfl (fun z hz => ?_) (by decide) (by decide) q1931 q1947 ?_
      · exact absurd hz (List.not_mem_nil)
      refine nd_astore hC dX0_cell_13 (Nat.le_of_ble_eq_true rfl) rfl ?_
      refine nd_iconst hC (v := nI 1) (by rfl) dX0_cell_15 ?_
      exact nd_ireturn hC rfl rfl (by omega) (by omega) dX0_cell_16 R
    · have q : (op_cell x y S).1 = 2 := by omega
      have R := hk h2 ov I2 f2.1 (fun a z1 z2 => f2.2 a z1 (by omega)) hov2 (fun y => absurd y e0)
      have R : K (.inl (some (.int (nI (op_cell x y S).1)))) h2 := R
      rw [q] at R
      show nd_T _ _ _ _ _ _ _ _ _ (ex2 eNSE eIAE (op_cell x y S).1) _ _ _ _
      rw [q]
      refine nd_catch hC (E := "java/lang/IllegalArgumentException") "java/lang/IllegalArgumentException" [(0, 10, 13, 19)] (0, 10, 17, 13) [] rfl rfl (fun z hz => ?_) (by decide) (by decide) q1529 q1109 ?_
      · have hz : z = ⟨0, 10, 13, 19⟩ := by simpa [tableOf] using hz
        rcases hz with hz
        · subst hz
          exact Or.inr ⟨by decide, "java/util/NoSuchElementException", q1931, nw_nc hC [false, false, true, true, false, false, true, true, true, true, false] rfl⟩
      refine nd_astore hC dX0_cell_17 (Nat.le_of_ble_eq_true rfl) rfl ?_
      refine nd_iconst hC (v := nI 2) (by rfl) dX0_cell_19 ?_
      exact nd_ireturn hC rfl rfl (by omega) (by omega) dX0_cell_20 R
theorem wb_high (x : Int32) (S : sy_S) : (op_high x S).1 ≤ 1 := by
  have := ty_f_le x S
  have := mk_f_le x S
  have := cr_f_le x S
  have := sk_f_le x S
  unfold op_high
  repeat' split
  all_goals first | exact Nat.zero_le _ | exact Nat.le_refl _ | (simp; done) | (simp; omega) | omega
theorem wx_high (hg : nd_OK g) (hd : 7 ≤ d) (x : Int32) : wp_ok g mX0_high d 2 12 [.ref 0, .int x, .ref 122] (mp_i (op_high x)) := by
  intro S h K ov hS hI hl hov hk
  obtain ⟨⟨x0, hO⟩, -⟩ : (∃ x, cx_O h (nI (sy_b S).length) (nI (sy_fk S)) (sy_fp S) x) ∧ True := by
    obtain ⟨-, o, nap, ds, gi, dss, hK⟩ := hI
    exact ⟨hK.1, trivial⟩
  unfold cx_O at hO
  have hbd := wb_high x S
  have hL0 : 122 < h.length := by omega
  refine nd_enterH _ hg (by decide) rfl (Nat.le_of_ble_eq_true rfl) (fun X hC => ?_)
  refine nd_aload_n hC dX0_high_0 rfl rfl ?_
  refine nd_iconst hC (v := nI 0) (by rfl) dX0_high_1 ?_
  refine nd_aload_n hC dX0_high_2 rfl rfl ?_
  refine nd_iload_n hC dX0_high_3 rfl ?_
  refine nd_callV (mm2 := mX1_high) (As := [_]) (mc2 := 2) (ms2 := 12) (d2 := d - 1) hC rfl lkX0_21 ⟨rfl, lmX1_high⟩ (hO) rfl (Nat.le_of_ble_eq_true rfl) (by omega) rfl (by exact Nat.le_of_ble_eq_true rfl) (by omega) (by omega) dX0_high_4 rfl ((cp_high hg (by omega) x S h _ hS hI hl (fun e0 h2 I2 f2 => ?_) (fun e0 h2 k I2 f2 => ?_)))
  · have hov2 := (f2.2 122 (by omega) (by omega)).trans hov
    first | with_reducible refine nd_i2lN hC (by omega) dX0_high_7 ?_ | refine nd_i2l hC dX0_high_7 ?_
    refine nd_lastoreN (j := 0) (n := 1) hC hov2 (by omega) (by omega) dX0_high_8 ?_
    refine nd_goto hC (tgt := 15) dX0_high_9 (by decide) ?_
    refine nd_iconst hC (v := nI 0) (by rfl) dX0_high_15 ?_
    refine nd_ireturn hC rfl rfl (by omega) (by omega) dX0_high_16 ?_
    have l2 : 122 < h2.length := by have := f2.1; omega
    have e1 : (op_high x S).1 = 0 := e0
    suffices R : K (.inl (some (.int (nI (op_high x S).1)))) _ by
      rw [e1] at R
      exact R
    exact hk _ _ I2.o122 (by rw [List.length_set]; exact f2.1) (fun a z1 z2 => (List.getElem?_set_ne (by omega)).trans (f2.2 a z1 (by omega))) (List.getElem?_set_self l2) (fun _ => rfl)
  · have e0 : (op_high x S).1 ≠ 0 := e0
    have hov2 := (f2.2 122 (by omega) (by omega)).trans hov
    have q : (op_high x S).1 = 1 := by omega
    have R := hk h2 ov I2 f2.1 (fun a z1 z2 => f2.2 a z1 (by omega)) hov2 (fun y => absurd y e0)
    have R : K (.inl (some (.int (nI (op_high x S).1)))) h2 := R
    rw [q] at R
    show nd_T _ _ _ _ _ _ _ _ _ (ex1 eNSE (op_high x S).1) _ _ _ _
    rw [q]
    refine nd_catch hC (E := "java/util/NoSuchElementException") "java/util/NoSuchElementException" [] (0, 9, 12, 19) [] rfl rfl (fun z hz => ?_) (by decide) (by decide) q1931 q1947 ?_
    · exact absurd hz (List.not_mem_nil)
    refine nd_astore_n hC dX0_high_12 (Nat.le_of_ble_eq_true rfl) rfl ?_
    refine nd_iconst hC (v := nI 1) (by rfl) dX0_high_13 ?_
    exact nd_ireturn hC rfl rfl (by omega) (by omega) dX0_high_14 R
theorem wb_layer (x y : Int32) (S : sy_S) : (op_layer x y S).1 ≤ 2 := by
  have := ty_f_le x S
  have := mk_f_le x S
  have := cr_f_le x S
  have := sk_f_le x S
  have := sn_f_le x y S
  have := jd_f_le x y S
  unfold op_layer
  repeat' split
  all_goals first | exact Nat.zero_le _ | exact Nat.le_refl _ | (simp; done) | (simp; omega) | omega
theorem wx_layer (hg : nd_OK g) (hd : 7 ≤ d) (x y : Int32) : wp_ok g mX0_layer d 2 12 [.ref 0, .int x, .int y, .ref 122] (mp_i (op_layer x y)) := by
  intro S h K ov hS hI hl hov hk
  obtain ⟨⟨x0, hO⟩, -⟩ : (∃ x, cx_O h (nI (sy_b S).length) (nI (sy_fk S)) (sy_fp S) x) ∧ True := by
    obtain ⟨-, o, nap, ds, gi, dss, hK⟩ := hI
    exact ⟨hK.1, trivial⟩
  unfold cx_O at hO
  have hbd := wb_layer x y S
  have hL0 : 122 < h.length := by omega
  refine nd_enterH _ hg (by decide) rfl (Nat.le_of_ble_eq_true rfl) (fun X hC => ?_)
  refine nd_aload_n hC dX0_layer_0 rfl rfl ?_
  refine nd_iconst hC (v := nI 0) (by rfl) dX0_layer_1 ?_
  refine nd_aload_n hC dX0_layer_2 rfl rfl ?_
  refine nd_iload_n hC dX0_layer_3 rfl ?_
  refine nd_iload_n hC dX0_layer_4 rfl ?_
  refine nd_callV (mm2 := mX1_layer) (As := [_, _]) (mc2 := 2) (ms2 := 12) (d2 := d - 1) hC rfl lkX0_24 ⟨rfl, lmX1_layer⟩ (hO) rfl (Nat.le_of_ble_eq_true rfl) (by omega) rfl (by exact Nat.le_of_ble_eq_true rfl) (by omega) (by omega) dX0_layer_5 rfl ((cp_layer hg (by omega) x y S h _ hS hI hl (fun e0 h2 I2 f2 => ?_) (fun e0 h2 k I2 f2 => ?_)))
  · have hov2 := (f2.2 122 (by omega) (by omega)).trans hov
    first | with_reducible refine nd_i2lN hC (by omega) dX0_layer_8 ?_ | refine nd_i2l hC dX0_layer_8 ?_
    refine nd_lastoreN (j := 0) (n := 1) hC hov2 (by omega) (by omega) dX0_layer_9 ?_
    refine nd_goto hC (tgt := 21) dX0_layer_10 (by decide) ?_
    refine nd_iconst hC (v := nI 0) (by rfl) dX0_layer_21 ?_
    refine nd_ireturn hC rfl rfl (by omega) (by omega) dX0_layer_22 ?_
    have l2 : 122 < h2.length := by have := f2.1; omega
    have e1 : (op_layer x y S).1 = 0 := e0
    suffices R : K (.inl (some (.int (nI (op_layer x y S).1)))) _ by
      rw [e1] at R
      exact R
    exact hk _ _ I2.o122 (by rw [List.length_set]; exact f2.1) (fun a z1 z2 => (List.getElem?_set_ne (by omega)).trans (f2.2 a z1 (by omega))) (List.getElem?_set_self l2) (fun _ => rfl)
  · have e0 : (op_layer x y S).1 ≠ 0 := e0
    have hov2 := (f2.2 122 (by omega) (by omega)).trans hov
    rcases (show (op_layer x y S).1 = 1 ∨ (op_layer x y S).1 = 2 by omega) with qq | qq
    · have q : (op_layer x y S).1 = 1 := by omega
      have R := hk h2 ov I2 f2.1 (fun a z1 z2 => f2.2 a z1 (by omega)) hov2 (fun y => absurd y e0)
      have R : K (.inl (some (.int (nI (op_layer x y S).1)))) h2 := R
      rw [q] at R
      show nd_T _ _ _ _ _ _ _ _ _ (ex2 eNSE eIAE (op_layer x y S).1) _ _ _ _
      rw [q]
      refine nd_catch hC (E := "java/util/NoSuchElementException") "java/util/NoSuchElementException" [] (0, 10, 13, 19) [(0, 10, 17, 13)] rfl rfl (fun z hz => ?_) (by decide) (by decide) q1931 q1947 ?_
      · exact absurd hz (List.not_mem_nil)
      refine nd_astore hC dX0_layer_13 (Nat.le_of_ble_eq_true rfl) rfl ?_
      refine nd_iconst hC (v := nI 1) (by rfl) dX0_layer_15 ?_
      exact nd_ireturn hC rfl rfl (by omega) (by omega) dX0_layer_16 R
    · have q : (op_layer x y S).1 = 2 := by omega
      have R := hk h2 ov I2 f2.1 (fun a z1 z2 => f2.2 a z1 (by omega)) hov2 (fun y => absurd y e0)
      have R : K (.inl (some (.int (nI (op_layer x y S).1)))) h2 := R
      rw [q] at R
      show nd_T _ _ _ _ _ _ _ _ _ (ex2 eNSE eIAE (op_layer x y S).1) _ _ _ _
      rw [q]
      refine nd_catch hC (E := "java/lang/IllegalArgumentException") "java/lang/IllegalArgumentException" [(0, 10, 13, 19)] (0, 10, 17, 13) [] rfl rfl (fun z hz => ?_) (by decide) (by decide) q1529 q1109 ?_
      · have hz : z = ⟨0, 10, 13, 19⟩ := by simpa [tableOf] using hz
        rcases hz with hz
        · subst hz
          exact Or.inr ⟨by decide, "java/util/NoSuchElementException", q1931, nw_nc hC [false, false, true, true, false, false, true, true, true, true, false] rfl⟩
      refine nd_astore hC dX0_layer_17 (Nat.le_of_ble_eq_true rfl) rfl ?_
      refine nd_iconst hC (v := nI 2) (by rfl) dX0_layer_19 ?_
      exact nd_ireturn hC rfl rfl (by omega) (by omega) dX0_layer_20 R
theorem wb_above (x : Int32) (S : sy_S) : (op_above x S).1 ≤ 1 := by
  have := ty_f_le x S
  have := mk_f_le x S
  have := cr_f_le x S
  have := sk_f_le x S
  unfold op_above
  repeat' split
  all_goals first | exact Nat.zero_le _ | exact Nat.le_refl _ | (simp; done) | (simp; omega) | omega
theorem wx_above (hg : nd_OK g) (hd : 7 ≤ d) (x : Int32) : wp_ok g mX0_above d 2 12 [.ref 0, .int x, .ref 122] (mp_i (op_above x)) := by
  intro S h K ov hS hI hl hov hk
  obtain ⟨⟨x0, hO⟩, -⟩ : (∃ x, cx_O h (nI (sy_b S).length) (nI (sy_fk S)) (sy_fp S) x) ∧ True := by
    obtain ⟨-, o, nap, ds, gi, dss, hK⟩ := hI
    exact ⟨hK.1, trivial⟩
  unfold cx_O at hO
  have hbd := wb_above x S
  have hL0 : 122 < h.length := by omega
  refine nd_enterH _ hg (by decide) rfl (Nat.le_of_ble_eq_true rfl) (fun X hC => ?_)
  refine nd_aload_n hC dX0_above_0 rfl rfl ?_
  refine nd_iconst hC (v := nI 0) (by rfl) dX0_above_1 ?_
  refine nd_aload_n hC dX0_above_2 rfl rfl ?_
  refine nd_iload_n hC dX0_above_3 rfl ?_
  refine nd_callV (mm2 := mX1_above) (As := [_]) (mc2 := 2) (ms2 := 12) (d2 := d - 1) hC rfl lkX0_27 ⟨rfl, lmX1_above⟩ (hO) rfl (Nat.le_of_ble_eq_true rfl) (by omega) rfl (by exact Nat.le_of_ble_eq_true rfl) (by omega) (by omega) dX0_above_4 rfl ((cp_above hg (by omega) x S h _ hS hI hl (fun e0 h2 I2 f2 => ?_) (fun e0 h2 k I2 f2 => ?_)))
  · have hov2 := (f2.2 122 (by omega) (by omega)).trans hov
    first | with_reducible refine nd_i2lN hC (by omega) dX0_above_7 ?_ | refine nd_i2l hC dX0_above_7 ?_
    refine nd_lastoreN (j := 0) (n := 1) hC hov2 (by omega) (by omega) dX0_above_8 ?_
    refine nd_goto hC (tgt := 15) dX0_above_9 (by decide) ?_
    refine nd_iconst hC (v := nI 0) (by rfl) dX0_above_15 ?_
    refine nd_ireturn hC rfl rfl (by omega) (by omega) dX0_above_16 ?_
    have l2 : 122 < h2.length := by have := f2.1; omega
    have e1 : (op_above x S).1 = 0 := e0
    suffices R : K (.inl (some (.int (nI (op_above x S).1)))) _ by
      rw [e1] at R
      exact R
    exact hk _ _ I2.o122 (by rw [List.length_set]; exact f2.1) (fun a z1 z2 => (List.getElem?_set_ne (by omega)).trans (f2.2 a z1 (by omega))) (List.getElem?_set_self l2) (fun _ => rfl)
  · have e0 : (op_above x S).1 ≠ 0 := e0
    have hov2 := (f2.2 122 (by omega) (by omega)).trans hov
    have q : (op_above x S).1 = 1 := by omega
    have R := hk h2 ov I2 f2.1 (fun a z1 z2 => f2.2 a z1 (by omega)) hov2 (fun y => absurd y e0)
    have R : K (.inl (some (.int (nI (op_above x S).1)))) h2 := R
    rw [q] at R
    show nd_T _ _ _ _ _ _ _ _ _ (ex1 eNSE (op_above x S).1) _ _ _ _
    rw [q]
    refine nd_catch hC (E := "java/util/NoSuchElementException") "java/util/NoSuchElementException" [] (0, 9, 12, 19) [] rfl rfl (fun z hz => ?_) (by decide) (by decide) q1931 q1947 ?_
    · exact absurd hz (List.not_mem_nil)
    refine nd_astore_n hC dX0_above_12 (Nat.le_of_ble_eq_true rfl) rfl ?_
    refine nd_iconst hC (v := nI 1) (by rfl) dX0_above_13 ?_
    exact nd_ireturn hC rfl rfl (by omega) (by omega) dX0_above_14 R
theorem wb_beneath (x : Int32) (S : sy_S) : (op_beneath x S).1 ≤ 1 := by
  have := ty_f_le x S
  have := mk_f_le x S
  have := cr_f_le x S
  have := sk_f_le x S
  unfold op_beneath
  repeat' split
  all_goals first | exact Nat.zero_le _ | exact Nat.le_refl _ | (simp; done) | (simp; omega) | omega
theorem wx_beneath (hg : nd_OK g) (hd : 7 ≤ d) (x : Int32) : wp_ok g mX0_beneath d 2 12 [.ref 0, .int x, .ref 122] (mp_i (op_beneath x)) := by
  intro S h K ov hS hI hl hov hk
  obtain ⟨⟨x0, hO⟩, -⟩ : (∃ x, cx_O h (nI (sy_b S).length) (nI (sy_fk S)) (sy_fp S) x) ∧ True := by
    obtain ⟨-, o, nap, ds, gi, dss, hK⟩ := hI
    exact ⟨hK.1, trivial⟩
  unfold cx_O at hO
  have hbd := wb_beneath x S
  have hL0 : 122 < h.length := by omega
  refine nd_enterH _ hg (by decide) rfl (Nat.le_of_ble_eq_true rfl) (fun X hC => ?_)
  refine nd_aload_n hC dX0_beneath_0 rfl rfl ?_
  refine nd_iconst hC (v := nI 0) (by rfl) dX0_beneath_1 ?_
  refine nd_aload_n hC dX0_beneath_2 rfl rfl ?_
  refine nd_iload_n hC dX0_beneath_3 rfl ?_
  refine nd_callV (mm2 := mX1_beneath) (As := [_]) (mc2 := 2) (ms2 := 12) (d2 := d - 1) hC rfl lkX0_30 ⟨rfl, lmX1_beneath⟩ (hO) rfl (Nat.le_of_ble_eq_true rfl) (by omega) rfl (by exact Nat.le_of_ble_eq_true rfl) (by omega) (by omega) dX0_beneath_4 rfl ((cp_beneath hg (by omega) x S h _ hS hI hl (fun e0 h2 I2 f2 => ?_) (fun e0 h2 k I2 f2 => ?_)))
  · have hov2 := (f2.2 122 (by omega) (by omega)).trans hov
    first | with_reducible refine nd_i2lN hC (by omega) dX0_beneath_7 ?_ | refine nd_i2l hC dX0_beneath_7 ?_
    refine nd_lastoreN (j := 0) (n := 1) hC hov2 (by omega) (by omega) dX0_beneath_8 ?_
    refine nd_goto hC (tgt := 15) dX0_beneath_9 (by decide) ?_
    refine nd_iconst hC (v := nI 0) (by rfl) dX0_beneath_15 ?_
    refine nd_ireturn hC rfl rfl (by omega) (by omega) dX0_beneath_16 ?_
    have l2 : 122 < h2.length := by have := f2.1; omega
    have e1 : (op_beneath x S).1 = 0 := e0
    suffices R : K (.inl (some (.int (nI (op_beneath x S).1)))) _ by
      rw [e1] at R
      exact R
    exact hk _ _ I2.o122 (by rw [List.length_set]; exact f2.1) (fun a z1 z2 => (List.getElem?_set_ne (by omega)).trans (f2.2 a z1 (by omega))) (List.getElem?_set_self l2) (fun _ => rfl)
  · have e0 : (op_beneath x S).1 ≠ 0 := e0
    have hov2 := (f2.2 122 (by omega) (by omega)).trans hov
    have q : (op_beneath x S).1 = 1 := by omega
    have R := hk h2 ov I2 f2.1 (fun a z1 z2 => f2.2 a z1 (by omega)) hov2 (fun y => absurd y e0)
    have R : K (.inl (some (.int (nI (op_beneath x S).1)))) h2 := R
    rw [q] at R
    show nd_T _ _ _ _ _ _ _ _ _ (ex1 eNSE (op_beneath x S).1) _ _ _ _
    rw [q]
    refine nd_catch hC (E := "java/util/NoSuchElementException") "java/util/NoSuchElementException" [] (0, 9, 12, 19) [] rfl rfl (fun z hz => ?_) (by decide) (by decide) q1931 q1947 ?_
    · exact absurd hz (List.not_mem_nil)
    refine nd_astore_n hC dX0_beneath_12 (Nat.le_of_ble_eq_true rfl) rfl ?_
    refine nd_iconst hC (v := nI 1) (by rfl) dX0_beneath_13 ?_
    exact nd_ireturn hC rfl rfl (by omega) (by omega) dX0_beneath_14 R
theorem wb_crease (x : Int32) (S : sy_S) : (op_crease x S).1 ≤ 1 := by
  have := ty_f_le x S
  have := mk_f_le x S
  have := cr_f_le x S
  have := sk_f_le x S
  unfold op_crease
  repeat' split
  all_goals first | exact Nat.zero_le _ | exact Nat.le_refl _ | (simp; done) | (simp; omega) | omega
theorem wx_crease (hg : nd_OK g) (hd : 7 ≤ d) (x : Int32) : wp_ok g mX0_crease d 2 12 [.ref 0, .int x, .ref 122] (mp_i (op_crease x)) := by
  intro S h K ov hS hI hl hov hk
  obtain ⟨⟨x0, hO⟩, -⟩ : (∃ x, cx_O h (nI (sy_b S).length) (nI (sy_fk S)) (sy_fp S) x) ∧ True := by
    obtain ⟨-, o, nap, ds, gi, dss, hK⟩ := hI
    exact ⟨hK.1, trivial⟩
  unfold cx_O at hO
  have hbd := wb_crease x S
  have hL0 : 122 < h.length := by omega
  refine nd_enterH _ hg (by decide) rfl (Nat.le_of_ble_eq_true rfl) (fun X hC => ?_)
  refine nd_aload_n hC dX0_crease_0 rfl rfl ?_
  refine nd_iconst hC (v := nI 0) (by rfl) dX0_crease_1 ?_
  refine nd_aload_n hC dX0_crease_2 rfl rfl ?_
  refine nd_iload_n hC dX0_crease_3 rfl ?_
  refine nd_callV (mm2 := mX1_crease) (As := [_]) (mc2 := 2) (ms2 := 12) (d2 := d - 1) hC rfl lkX0_33 ⟨rfl, lmX1_crease⟩ (hO) rfl (Nat.le_of_ble_eq_true rfl) (by omega) rfl (by exact Nat.le_of_ble_eq_true rfl) (by omega) (by omega) dX0_crease_4 rfl ((cp_crease hg (by omega) x S h _ hS hI hl (fun e0 h2 I2 f2 => ?_) (fun e0 h2 k I2 f2 => ?_)))
  · have hov2 := (f2.2 122 (by omega) (by omega)).trans hov
    first | with_reducible refine nd_i2lN hC (by omega) dX0_crease_7 ?_ | refine nd_i2l hC dX0_crease_7 ?_
    refine nd_lastoreN (j := 0) (n := 1) hC hov2 (by omega) (by omega) dX0_crease_8 ?_
    refine nd_goto hC (tgt := 15) dX0_crease_9 (by decide) ?_
    refine nd_iconst hC (v := nI 0) (by rfl) dX0_crease_15 ?_
    refine nd_ireturn hC rfl rfl (by omega) (by omega) dX0_crease_16 ?_
    have l2 : 122 < h2.length := by have := f2.1; omega
    have e1 : (op_crease x S).1 = 0 := e0
    suffices R : K (.inl (some (.int (nI (op_crease x S).1)))) _ by
      rw [e1] at R
      exact R
    exact hk _ _ I2.o122 (by rw [List.length_set]; exact f2.1) (fun a z1 z2 => (List.getElem?_set_ne (by omega)).trans (f2.2 a z1 (by omega))) (List.getElem?_set_self l2) (fun _ => rfl)
  · have e0 : (op_crease x S).1 ≠ 0 := e0
    have hov2 := (f2.2 122 (by omega) (by omega)).trans hov
    have q : (op_crease x S).1 = 1 := by omega
    have R := hk h2 ov I2 f2.1 (fun a z1 z2 => f2.2 a z1 (by omega)) hov2 (fun y => absurd y e0)
    have R : K (.inl (some (.int (nI (op_crease x S).1)))) h2 := R
    rw [q] at R
    show nd_T _ _ _ _ _ _ _ _ _ (ex1 eNSE (op_crease x S).1) _ _ _ _
    rw [q]
    refine nd_catch hC (E := "java/util/NoSuchElementException") "java/util/NoSuchElementException" [] (0, 9, 12, 19) [] rfl rfl (fun z hz => ?_) (by decide) (by decide) q1931 q1947 ?_
    · exact absurd hz (List.not_mem_nil)
    refine nd_astore_n hC dX0_crease_12 (Nat.le_of_ble_eq_true rfl) rfl ?_
    refine nd_iconst hC (v := nI 1) (by rfl) dX0_crease_13 ?_
    exact nd_ireturn hC rfl rfl (by omega) (by omega) dX0_crease_14 R
theorem wb_folded (x : Int32) (S : sy_S) : (op_folded x S).1 ≤ 1 := by
  have := ty_f_le x S
  have := mk_f_le x S
  have := cr_f_le x S
  have := sk_f_le x S
  unfold op_folded
  repeat' split
  all_goals first | exact Nat.zero_le _ | exact Nat.le_refl _ | (simp; done) | (simp; omega) | omega
theorem wx_folded (hg : nd_OK g) (hd : 7 ≤ d) (x : Int32) : wp_ok g mX0_folded d 2 12 [.ref 0, .int x, .ref 122] (mp_i (op_folded x)) := by
  intro S h K ov hS hI hl hov hk
  obtain ⟨⟨x0, hO⟩, -⟩ : (∃ x, cx_O h (nI (sy_b S).length) (nI (sy_fk S)) (sy_fp S) x) ∧ True := by
    obtain ⟨-, o, nap, ds, gi, dss, hK⟩ := hI
    exact ⟨hK.1, trivial⟩
  unfold cx_O at hO
  have hbd := wb_folded x S
  have hL0 : 122 < h.length := by omega
  refine nd_enterH _ hg (by decide) rfl (Nat.le_of_ble_eq_true rfl) (fun X hC => ?_)
  refine nd_aload_n hC dX0_folded_0 rfl rfl ?_
  refine nd_iconst hC (v := nI 0) (by rfl) dX0_folded_1 ?_
  refine nd_aload_n hC dX0_folded_2 rfl rfl ?_
  refine nd_iload_n hC dX0_folded_3 rfl ?_
  refine nd_callV (mm2 := mX1_folded) (As := [_]) (mc2 := 2) (ms2 := 12) (d2 := d - 1) hC rfl lkX0_36 ⟨rfl, lmX1_folded⟩ (hO) rfl (Nat.le_of_ble_eq_true rfl) (by omega) rfl (by exact Nat.le_of_ble_eq_true rfl) (by omega) (by omega) dX0_folded_4 rfl ((cp_folded hg (by omega) x S h _ hS hI hl (fun e0 h2 I2 f2 => ?_) (fun e0 h2 k I2 f2 => ?_)))
  · have hov2 := (f2.2 122 (by omega) (by omega)).trans hov
    first | with_reducible refine nd_i2lN hC (by omega) dX0_folded_7 ?_ | refine nd_i2l hC dX0_folded_7 ?_
    refine nd_lastoreN (j := 0) (n := 1) hC hov2 (by omega) (by omega) dX0_folded_8 ?_
    refine nd_goto hC (tgt := 15) dX0_folded_9 (by decide) ?_
    refine nd_iconst hC (v := nI 0) (by rfl) dX0_folded_15 ?_
    refine nd_ireturn hC rfl rfl (by omega) (by omega) dX0_folded_16 ?_
    have l2 : 122 < h2.length := by have := f2.1; omega
    have e1 : (op_folded x S).1 = 0 := e0
    suffices R : K (.inl (some (.int (nI (op_folded x S).1)))) _ by
      rw [e1] at R
      exact R
    exact hk _ _ I2.o122 (by rw [List.length_set]; exact f2.1) (fun a z1 z2 => (List.getElem?_set_ne (by omega)).trans (f2.2 a z1 (by omega))) (List.getElem?_set_self l2) (fun _ => rfl)
  · have e0 : (op_folded x S).1 ≠ 0 := e0
    have hov2 := (f2.2 122 (by omega) (by omega)).trans hov
    have q : (op_folded x S).1 = 1 := by omega
    have R := hk h2 ov I2 f2.1 (fun a z1 z2 => f2.2 a z1 (by omega)) hov2 (fun y => absurd y e0)
    have R : K (.inl (some (.int (nI (op_folded x S).1)))) h2 := R
    rw [q] at R
    show nd_T _ _ _ _ _ _ _ _ _ (ex1 eIAE (op_folded x S).1) _ _ _ _
    rw [q]
    refine nd_catch hC (E := "java/lang/IllegalArgumentException") "java/lang/IllegalArgumentException" [] (0, 9, 12, 13) [] rfl rfl (fun z hz => ?_) (by decide) (by decide) q1529 q1109 ?_
    · exact absurd hz (List.not_mem_nil)
    refine nd_astore_n hC dX0_folded_12 (Nat.le_of_ble_eq_true rfl) rfl ?_
    refine nd_iconst hC (v := nI 1) (by rfl) dX0_folded_13 ?_
    exact nd_ireturn hC rfl rfl (by omega) (by omega) dX0_folded_14 R
theorem wb_likes (x : Int32) (S : sy_S) : (op_likes x S).1 ≤ 1 := by
  have := ty_f_le x S
  have := mk_f_le x S
  have := cr_f_le x S
  have := sk_f_le x S
  unfold op_likes
  repeat' split
  all_goals first | exact Nat.zero_le _ | exact Nat.le_refl _ | (simp; done) | (simp; omega) | omega
theorem wx_likes (hg : nd_OK g) (hd : 921 ≤ d) (x : Int32) : wp_ok g mX0_likes d 2 12 [.ref 0, .int x, .ref 122] (mp_i (op_likes x)) := by
  intro S h K ov hS hI hl hov hk
  obtain ⟨⟨x0, hO⟩, -⟩ : (∃ x, cx_O h (nI (sy_b S).length) (nI (sy_fk S)) (sy_fp S) x) ∧ True := by
    obtain ⟨-, o, nap, ds, gi, dss, hK⟩ := hI
    exact ⟨hK.1, trivial⟩
  unfold cx_O at hO
  have hbd := wb_likes x S
  have hL0 : 122 < h.length := by omega
  refine nd_enterH _ hg (by decide) rfl (Nat.le_of_ble_eq_true rfl) (fun X hC => ?_)
  refine nd_aload_n hC dX0_likes_0 rfl rfl ?_
  refine nd_iconst hC (v := nI 0) (by rfl) dX0_likes_1 ?_
  refine nd_aload_n hC dX0_likes_2 rfl rfl ?_
  refine nd_iload_n hC dX0_likes_3 rfl ?_
  refine nd_callV (mm2 := mX1_likes_2) (As := [_]) (mc2 := 2) (ms2 := 12) (d2 := d - 1) hC rfl lkX0_39 ⟨rfl, lmX1_likes_2⟩ (hO) rfl (Nat.le_of_ble_eq_true rfl) (by omega) rfl (by exact Nat.le_of_ble_eq_true rfl) (by omega) (by omega) dX0_likes_4 rfl ((cp_likes_2 hg (by omega) x S h _ hS hI hl (fun e0 h2 I2 f2 => ?_) (fun e0 h2 k I2 f2 => ?_)))
  · have hov2 := (f2.2 122 (by omega) (by omega)).trans hov
    first | with_reducible refine nd_i2lN hC (by omega) dX0_likes_7 ?_ | refine nd_i2l hC dX0_likes_7 ?_
    refine nd_lastoreN (j := 0) (n := 1) hC hov2 (by omega) (by omega) dX0_likes_8 ?_
    refine nd_goto hC (tgt := 15) dX0_likes_9 (by decide) ?_
    refine nd_iconst hC (v := nI 0) (by rfl) dX0_likes_15 ?_
    refine nd_ireturn hC rfl rfl (by omega) (by omega) dX0_likes_16 ?_
    have l2 : 122 < h2.length := by have := f2.1; omega
    have e1 : (op_likes x S).1 = 0 := e0
    suffices R : K (.inl (some (.int (nI (op_likes x S).1)))) _ by
      rw [e1] at R
      exact R
    exact hk _ _ I2.o122 (by rw [List.length_set]; exact f2.1) (fun a z1 z2 => (List.getElem?_set_ne (by omega)).trans (f2.2 a z1 (by omega))) (List.getElem?_set_self l2) (fun _ => rfl)
  · have e0 : (op_likes x S).1 ≠ 0 := e0
    have hov2 := (f2.2 122 (by omega) (by omega)).trans hov
    have q : (op_likes x S).1 = 1 := by omega
    have R := hk h2 ov I2 f2.1 (fun a z1 z2 => f2.2 a z1 (by omega)) hov2 (fun y => absurd y e0)
    have R : K (.inl (some (.int (nI (op_likes x S).1)))) h2 := R
    rw [q] at R
    show nd_T _ _ _ _ _ _ _ _ _ (ex1 eNSE (op_likes x S).1) _ _ _ _
    rw [q]
    refine nd_catch hC (E := "java/util/NoSuchElementException") "java/util/NoSuchElementException" [] (0, 9, 12, 19) [] rfl rfl (fun z hz => ?_) (by decide) (by decide) q1931 q1947 ?_
    · exact absurd hz (List.not_mem_nil)
    refine nd_astore_n hC dX0_likes_12 (Nat.le_of_ble_eq_true rfl) rfl ?_
    refine nd_iconst hC (v := nI 1) (by rfl) dX0_likes_13 ?_
    exact nd_ireturn hC rfl rfl (by omega) (by omega) dX0_likes_14 R
theorem wb_unfold  (S : sy_S) : (op_unfold S).1 ≤ 1 := by
  unfold op_unfold
  repeat' split
  all_goals first | exact Nat.zero_le _ | exact Nat.le_refl _ | (simp; done) | (simp; omega) | omega
theorem wx_unfold (hg : nd_OK g) (hd : 9 ≤ d)  : wp_ok g mX0_unfold d 10 60 [.ref 0, .ref 122] (mp_i (op_unfold)) := by
  intro S h K ov hS hI hl hov hk
  obtain ⟨⟨x0, hO⟩, -⟩ : (∃ x, cx_O h (nI (sy_b S).length) (nI (sy_fk S)) (sy_fp S) x) ∧ True := by
    obtain ⟨-, o, nap, ds, gi, dss, hK⟩ := hI
    exact ⟨hK.1, trivial⟩
  unfold cx_O at hO
  have hbd := wb_unfold  S
  have hL0 : 122 < h.length := by omega
  refine nd_enterH _ hg (by decide) rfl (Nat.le_of_ble_eq_true rfl) (fun X hC => ?_)
  refine nd_aload_n hC dX0_unfold_0 rfl rfl ?_
  refine nd_iconst hC (v := nI 0) (by rfl) dX0_unfold_1 ?_
  refine nd_aload_n hC dX0_unfold_2 rfl rfl ?_
  refine nd_callV (mm2 := mX1_unfold) (As := []) (mc2 := 10) (ms2 := 60) (d2 := d - 1) hC rfl lkX0_42 ⟨rfl, lmX1_unfold⟩ (hO) rfl (Nat.le_of_ble_eq_true rfl) (by omega) rfl (by exact Nat.le_of_ble_eq_true rfl) (by omega) (by omega) dX0_unfold_3 rfl ((cp_unfold hg (by omega)  S h _ hS hI hl (fun e0 h2 I2 f2 => ?_) (fun e0 h2 k I2 f2 => ?_)))
  · have hov2 := (f2.2 122 (by omega) (by omega)).trans hov
    first | with_reducible refine nd_i2lN hC (by omega) dX0_unfold_6 ?_ | refine nd_i2l hC dX0_unfold_6 ?_
    refine nd_lastoreN (j := 0) (n := 1) hC hov2 (by omega) (by omega) dX0_unfold_7 ?_
    refine nd_goto hC (tgt := 14) dX0_unfold_8 (by decide) ?_
    refine nd_iconst hC (v := nI 0) (by rfl) dX0_unfold_14 ?_
    refine nd_ireturn hC rfl rfl (by omega) (by omega) dX0_unfold_15 ?_
    have l2 : 122 < h2.length := by have := f2.1; omega
    have e1 : (op_unfold S).1 = 0 := e0
    suffices R : K (.inl (some (.int (nI (op_unfold S).1)))) _ by
      rw [e1] at R
      exact R
    exact hk _ _ I2.o122 (by rw [List.length_set]; exact f2.1) (fun a z1 z2 => (List.getElem?_set_ne (by omega)).trans (f2.2 a z1 (by omega))) (List.getElem?_set_self l2) (fun _ => rfl)
  · have e0 : (op_unfold S).1 ≠ 0 := e0
    have hov2 := (f2.2 122 (by omega) (by omega)).trans hov
    have q : (op_unfold S).1 = 1 := by omega
    have R := hk h2 ov I2 f2.1 (fun a z1 z2 => f2.2 a z1 (by omega)) hov2 (fun y => absurd y e0)
    have R : K (.inl (some (.int (nI (op_unfold S).1)))) h2 := R
    rw [q] at R
    show nd_T _ _ _ _ _ _ _ _ _ (ex1 eISE (op_unfold S).1) _ _ _ _
    rw [q]
    refine nd_catch hC (E := "java/lang/IllegalStateException") "java/lang/IllegalStateException" [] (0, 8, 11, 46) [] rfl rfl (fun z hz => ?_) (by decide) (by decide) q2020 q2030 ?_
    · exact absurd hz (List.not_mem_nil)
    refine nd_astore_n hC dX0_unfold_11 (Nat.le_of_ble_eq_true rfl) rfl ?_
    refine nd_iconst hC (v := nI 1) (by rfl) dX0_unfold_12 ?_
    exact nd_ireturn hC rfl rfl (by omega) (by omega) dX0_unfold_13 R
theorem wb_shake  (S : sy_S) : (op_shake S).1 ≤ 1 := by
  unfold op_shake
  repeat' split
  all_goals first | exact Nat.zero_le _ | exact Nat.le_refl _ | (simp; done) | (simp; omega) | omega
theorem wx_shake (hg : nd_OK g) (hd : 9 ≤ d)  : wp_ok g mX0_shake d 10 60 [.ref 0, .ref 122] (mp_i (op_shake)) := by
  intro S h K ov hS hI hl hov hk
  obtain ⟨⟨x0, hO⟩, -⟩ : (∃ x, cx_O h (nI (sy_b S).length) (nI (sy_fk S)) (sy_fp S) x) ∧ True := by
    obtain ⟨-, o, nap, ds, gi, dss, hK⟩ := hI
    exact ⟨hK.1, trivial⟩
  unfold cx_O at hO
  have hbd := wb_shake  S
  have hL0 : 122 < h.length := by omega
  refine nd_enterH _ hg (by decide) rfl (Nat.le_of_ble_eq_true rfl) (fun X hC => ?_)
  refine nd_aload_n hC dX0_shake_0 rfl rfl ?_
  refine nd_iconst hC (v := nI 0) (by rfl) dX0_shake_1 ?_
  refine nd_aload_n hC dX0_shake_2 rfl rfl ?_
  refine nd_callV (mm2 := mX1_shake) (As := []) (mc2 := 10) (ms2 := 60) (d2 := d - 1) hC rfl lkX0_48 ⟨rfl, lmX1_shake⟩ (hO) rfl (Nat.le_of_ble_eq_true rfl) (by omega) rfl (by exact Nat.le_of_ble_eq_true rfl) (by omega) (by omega) dX0_shake_3 rfl ((cp_shake hg (by omega)  S h _ hS hI hl (fun e0 h2 I2 f2 => ?_) (fun e0 h2 k I2 f2 => ?_)))
  · have hov2 := (f2.2 122 (by omega) (by omega)).trans hov
    first | with_reducible refine nd_i2lN hC (by omega) dX0_shake_6 ?_ | refine nd_i2l hC dX0_shake_6 ?_
    refine nd_lastoreN (j := 0) (n := 1) hC hov2 (by omega) (by omega) dX0_shake_7 ?_
    refine nd_goto hC (tgt := 14) dX0_shake_8 (by decide) ?_
    refine nd_iconst hC (v := nI 0) (by rfl) dX0_shake_14 ?_
    refine nd_ireturn hC rfl rfl (by omega) (by omega) dX0_shake_15 ?_
    have l2 : 122 < h2.length := by have := f2.1; omega
    have e1 : (op_shake S).1 = 0 := e0
    suffices R : K (.inl (some (.int (nI (op_shake S).1)))) _ by
      rw [e1] at R
      exact R
    exact hk _ _ I2.o122 (by rw [List.length_set]; exact f2.1) (fun a z1 z2 => (List.getElem?_set_ne (by omega)).trans (f2.2 a z1 (by omega))) (List.getElem?_set_self l2) (fun _ => rfl)
  · have e0 : (op_shake S).1 ≠ 0 := e0
    have hov2 := (f2.2 122 (by omega) (by omega)).trans hov
    have q : (op_shake S).1 = 1 := by omega
    have R := hk h2 ov I2 f2.1 (fun a z1 z2 => f2.2 a z1 (by omega)) hov2 (fun y => absurd y e0)
    have R : K (.inl (some (.int (nI (op_shake S).1)))) h2 := R
    rw [q] at R
    show nd_T _ _ _ _ _ _ _ _ _ (ex1 eISE (op_shake S).1) _ _ _ _
    rw [q]
    refine nd_catch hC (E := "java/lang/IllegalStateException") "java/lang/IllegalStateException" [] (0, 8, 11, 46) [] rfl rfl (fun z hz => ?_) (by decide) (by decide) q2020 q2030 ?_
    · exact absurd hz (List.not_mem_nil)
    refine nd_astore_n hC dX0_shake_11 (Nat.le_of_ble_eq_true rfl) rfl ?_
    refine nd_iconst hC (v := nI 1) (by rfl) dX0_shake_12 ?_
    exact nd_ireturn hC rfl rfl (by omega) (by omega) dX0_shake_13 R
theorem wb_amend (x y z : Int32) (S : sy_S) : (op_amend x y z S).1 ≤ 2 := by
  have := ty_f_le x S
  have := mk_f_le x S
  have := cr_f_le x S
  have := sk_f_le x S
  have := sn_f_le x y S
  have := jd_f_le x y S
  unfold op_amend
  repeat' split
  all_goals first | exact Nat.zero_le _ | exact Nat.le_refl _ | (simp; done) | (simp; omega) | omega
theorem wx_amend (hg : nd_OK g) (hd : 9 ≤ d) (x y z : Int32) : wp_ok g mX0_amend d 12 70 [.ref 0, .int x, .int y, .int z, .ref 122] (mp_i (op_amend x y z)) := by
  intro S h K ov hS hI hl hov hk
  obtain ⟨⟨x0, hO⟩, -⟩ : (∃ x, cx_O h (nI (sy_b S).length) (nI (sy_fk S)) (sy_fp S) x) ∧ True := by
    obtain ⟨-, o, nap, ds, gi, dss, hK⟩ := hI
    exact ⟨hK.1, trivial⟩
  unfold cx_O at hO
  have hbd := wb_amend x y z S
  have hL0 : 122 < h.length := by omega
  refine nd_enterH _ hg (by decide) rfl (Nat.le_of_ble_eq_true rfl) (fun X hC => ?_)
  refine nd_aload hC dX0_amend_0 rfl rfl ?_
  refine nd_iconst hC (v := nI 0) (by rfl) dX0_amend_2 ?_
  refine nd_aload_n hC dX0_amend_3 rfl rfl ?_
  refine nd_iload_n hC dX0_amend_4 rfl ?_
  refine nd_iload_n hC dX0_amend_5 rfl ?_
  refine nd_iload_n hC dX0_amend_6 rfl ?_
  refine nd_callV (mm2 := mX1_amend) (As := [_, _, _]) (mc2 := 12) (ms2 := 70) (d2 := d - 1) hC rfl lkX0_51 ⟨rfl, lmX1_amend⟩ (hO) rfl (Nat.le_of_ble_eq_true rfl) (by omega) rfl (by exact Nat.le_of_ble_eq_true rfl) (by omega) (by omega) dX0_amend_7 rfl ((cp_amend hg (by omega) x y z S h _ hS hI hl (fun e0 h2 I2 f2 => ?_) (fun e0 h2 k I2 f2 => ?_)))
  · have hov2 := (f2.2 122 (by omega) (by omega)).trans hov
    first | with_reducible refine nd_i2lN hC (by omega) dX0_amend_10 ?_ | refine nd_i2l hC dX0_amend_10 ?_
    refine nd_lastoreN (j := 0) (n := 1) hC hov2 (by omega) (by omega) dX0_amend_11 ?_
    refine nd_goto hC (tgt := 23) dX0_amend_12 (by decide) ?_
    refine nd_iconst hC (v := nI 0) (by rfl) dX0_amend_23 ?_
    refine nd_ireturn hC rfl rfl (by omega) (by omega) dX0_amend_24 ?_
    have l2 : 122 < h2.length := by have := f2.1; omega
    have e1 : (op_amend x y z S).1 = 0 := e0
    suffices R : K (.inl (some (.int (nI (op_amend x y z S).1)))) _ by
      rw [e1] at R
      exact R
    exact hk _ _ I2.o122 (by rw [List.length_set]; exact f2.1) (fun a z1 z2 => (List.getElem?_set_ne (by omega)).trans (f2.2 a z1 (by omega))) (List.getElem?_set_self l2) (fun _ => rfl)
  · have e0 : (op_amend x y z S).1 ≠ 0 := e0
    have hov2 := (f2.2 122 (by omega) (by omega)).trans hov
    rcases (show (op_amend x y z S).1 = 1 ∨ (op_amend x y z S).1 = 2 by omega) with qq | qq
    · have q : (op_amend x y z S).1 = 1 := by omega
      have R := hk h2 ov I2 f2.1 (fun a z1 z2 => f2.2 a z1 (by omega)) hov2 (fun y => absurd y e0)
      have R : K (.inl (some (.int (nI (op_amend x y z S).1)))) h2 := R
      rw [q] at R
      show nd_T _ _ _ _ _ _ _ _ _ (ex2 eNSE eIAE (op_amend x y z S).1) _ _ _ _
      rw [q]
      refine nd_catch hC (E := "java/util/NoSuchElementException") "java/util/NoSuchElementException" [] (0, 12, 15, 19) [(0, 12, 19, 13)] rfl rfl (fun z hz => ?_) (by decide) (by decide) q1931 q1947 ?_
      · exact absurd hz (List.not_mem_nil)
      refine nd_astore hC dX0_amend_15 (Nat.le_of_ble_eq_true rfl) rfl ?_
      refine nd_iconst hC (v := nI 1) (by rfl) dX0_amend_17 ?_
      exact nd_ireturn hC rfl rfl (by omega) (by omega) dX0_amend_18 R
    · have q : (op_amend x y z S).1 = 2 := by omega
      have R := hk h2 ov I2 f2.1 (fun a z1 z2 => f2.2 a z1 (by omega)) hov2 (fun y => absurd y e0)
      have R : K (.inl (some (.int (nI (op_amend x y z S).1)))) h2 := R
      rw [q] at R
      show nd_T _ _ _ _ _ _ _ _ _ (ex2 eNSE eIAE (op_amend x y z S).1) _ _ _ _
      rw [q]
      refine nd_catch hC (E := "java/lang/IllegalArgumentException") "java/lang/IllegalArgumentException" [(0, 12, 15, 19)] (0, 12, 19, 13) [] rfl rfl (fun z hz => ?_) (by decide) (by decide) q1529 q1109 ?_
      · have hz : z = ⟨0, 12, 15, 19⟩ := by simpa [tableOf] using hz
        rcases hz with hz
        · subst hz
          exact Or.inr ⟨by decide, "java/util/NoSuchElementException", q1931, nw_nc hC [false, false, true, true, false, false, true, true, true, true, false] rfl⟩
      refine nd_astore hC dX0_amend_19 (Nat.le_of_ble_eq_true rfl) rfl ?_
      refine nd_iconst hC (v := nI 2) (by rfl) dX0_amend_21 ?_
      exact nd_ireturn hC rfl rfl (by omega) (by omega) dX0_amend_22 R
theorem wb_undo (x : Int32) (S : sy_S) : (op_undo x S).1 ≤ 1 := by
  have := ty_f_le x S
  have := mk_f_le x S
  have := cr_f_le x S
  have := sk_f_le x S
  unfold op_undo
  repeat' split
  all_goals first | exact Nat.zero_le _ | exact Nat.le_refl _ | (simp; done) | (simp; omega) | omega
theorem wx_undo (hg : nd_OK g) (hd : 9 ≤ d) (x : Int32) : wp_ok g mX0_undo d 2 12 [.ref 0, .int x, .ref 122] (mp_i (op_undo x)) := by
  intro S h K ov hS hI hl hov hk
  obtain ⟨⟨x0, hO⟩, -⟩ : (∃ x, cx_O h (nI (sy_b S).length) (nI (sy_fk S)) (sy_fp S) x) ∧ True := by
    obtain ⟨-, o, nap, ds, gi, dss, hK⟩ := hI
    exact ⟨hK.1, trivial⟩
  unfold cx_O at hO
  have hbd := wb_undo x S
  have hL0 : 122 < h.length := by omega
  refine nd_enterH _ hg (by decide) rfl (Nat.le_of_ble_eq_true rfl) (fun X hC => ?_)
  refine nd_aload_n hC dX0_undo_0 rfl rfl ?_
  refine nd_iconst hC (v := nI 0) (by rfl) dX0_undo_1 ?_
  refine nd_aload_n hC dX0_undo_2 rfl rfl ?_
  refine nd_iload_n hC dX0_undo_3 rfl ?_
  refine nd_callV (mm2 := mX1_undo) (As := [_]) (mc2 := 2) (ms2 := 12) (d2 := d - 1) hC rfl lkX0_55 ⟨rfl, lmX1_undo⟩ (hO) rfl (Nat.le_of_ble_eq_true rfl) (by omega) rfl (by exact Nat.le_of_ble_eq_true rfl) (by omega) (by omega) dX0_undo_4 rfl ((cp_undo hg (by omega) x S h _ hS hI hl (fun e0 h2 I2 f2 => ?_) (fun e0 h2 k I2 f2 => ?_)))
  · have hov2 := (f2.2 122 (by omega) (by omega)).trans hov
    first | with_reducible refine nd_i2lN hC (by omega) dX0_undo_7 ?_ | refine nd_i2l hC dX0_undo_7 ?_
    refine nd_lastoreN (j := 0) (n := 1) hC hov2 (by omega) (by omega) dX0_undo_8 ?_
    refine nd_goto hC (tgt := 15) dX0_undo_9 (by decide) ?_
    refine nd_iconst hC (v := nI 0) (by rfl) dX0_undo_15 ?_
    refine nd_ireturn hC rfl rfl (by omega) (by omega) dX0_undo_16 ?_
    have l2 : 122 < h2.length := by have := f2.1; omega
    have e1 : (op_undo x S).1 = 0 := e0
    suffices R : K (.inl (some (.int (nI (op_undo x S).1)))) _ by
      rw [e1] at R
      exact R
    exact hk _ _ I2.o122 (by rw [List.length_set]; exact f2.1) (fun a z1 z2 => (List.getElem?_set_ne (by omega)).trans (f2.2 a z1 (by omega))) (List.getElem?_set_self l2) (fun _ => rfl)
  · have e0 : (op_undo x S).1 ≠ 0 := e0
    have hov2 := (f2.2 122 (by omega) (by omega)).trans hov
    have q : (op_undo x S).1 = 1 := by omega
    have R := hk h2 ov I2 f2.1 (fun a z1 z2 => f2.2 a z1 (by omega)) hov2 (fun y => absurd y e0)
    have R : K (.inl (some (.int (nI (op_undo x S).1)))) h2 := R
    rw [q] at R
    show nd_T _ _ _ _ _ _ _ _ _ (ex1 eIAE (op_undo x S).1) _ _ _ _
    rw [q]
    refine nd_catch hC (E := "java/lang/IllegalArgumentException") "java/lang/IllegalArgumentException" [] (0, 9, 12, 13) [] rfl rfl (fun z hz => ?_) (by decide) (by decide) q1529 q1109 ?_
    · exact absurd hz (List.not_mem_nil)
    refine nd_astore_n hC dX0_undo_12 (Nat.le_of_ble_eq_true rfl) rfl ?_
    refine nd_iconst hC (v := nI 1) (by rfl) dX0_undo_13 ?_
    exact nd_ireturn hC rfl rfl (by omega) (by omega) dX0_undo_14 R
theorem wb_judge (x y : Int32) (S : sy_S) : (op_judge x y S).1 ≤ 3 := by
  have := ty_f_le x S
  have := mk_f_le x S
  have := cr_f_le x S
  have := sk_f_le x S
  have := sn_f_le x y S
  have := jd_f_le x y S
  unfold op_judge
  repeat' split
  all_goals first | exact Nat.zero_le _ | exact Nat.le_refl _ | (simp; done) | (simp; omega) | omega
theorem wx_judge (hg : nd_OK g) (hd : 11 ≤ d) (x y : Int32) : wp_ok g mX0_judge d 3 18 [.ref 0, .int x, .int y, .ref 122] (mp_i (op_judge x y)) := by
  intro S h K ov hS hI hl hov hk
  obtain ⟨⟨x0, hO⟩, -⟩ : (∃ x, cx_O h (nI (sy_b S).length) (nI (sy_fk S)) (sy_fp S) x) ∧ True := by
    obtain ⟨-, o, nap, ds, gi, dss, hK⟩ := hI
    exact ⟨hK.1, trivial⟩
  unfold cx_O at hO
  have hbd := wb_judge x y S
  have hL0 : 122 < h.length := by omega
  refine nd_enterH _ hg (by decide) rfl (Nat.le_of_ble_eq_true rfl) (fun X hC => ?_)
  refine nd_aload_n hC dX0_judge_0 rfl rfl ?_
  refine nd_iconst hC (v := nI 0) (by rfl) dX0_judge_1 ?_
  refine nd_aload_n hC dX0_judge_2 rfl rfl ?_
  refine nd_iload_n hC dX0_judge_3 rfl ?_
  refine nd_iload_n hC dX0_judge_4 rfl ?_
  refine nd_callV (mm2 := mX1_judge) (As := [_, _]) (mc2 := 3) (ms2 := 18) (d2 := d - 1) hC rfl lkX0_58 ⟨rfl, lmX1_judge⟩ (hO) rfl (Nat.le_of_ble_eq_true rfl) (by omega) rfl (by exact Nat.le_of_ble_eq_true rfl) (by omega) (by omega) dX0_judge_5 rfl ((cp_judge hg (by omega) x y S h _ hS hI hl (fun e0 h2 I2 f2 => ?_) (fun e0 h2 k I2 f2 => ?_)))
  · have hov2 := (f2.2 122 (by omega) (by omega)).trans hov
    first | with_reducible refine nd_i2lN hC (by omega) dX0_judge_8 ?_ | refine nd_i2l hC dX0_judge_8 ?_
    refine nd_lastoreN (j := 0) (n := 1) hC hov2 (by omega) (by omega) dX0_judge_9 ?_
    refine nd_goto hC (tgt := 25) dX0_judge_10 (by decide) ?_
    refine nd_iconst hC (v := nI 0) (by rfl) dX0_judge_25 ?_
    refine nd_ireturn hC rfl rfl (by omega) (by omega) dX0_judge_26 ?_
    have l2 : 122 < h2.length := by have := f2.1; omega
    have e1 : (op_judge x y S).1 = 0 := e0
    suffices R : K (.inl (some (.int (nI (op_judge x y S).1)))) _ by
      rw [e1] at R
      exact R
    exact hk _ _ I2.o122 (by rw [List.length_set]; exact f2.1) (fun a z1 z2 => (List.getElem?_set_ne (by omega)).trans (f2.2 a z1 (by omega))) (List.getElem?_set_self l2) (fun _ => rfl)
  · have e0 : (op_judge x y S).1 ≠ 0 := e0
    have hov2 := (f2.2 122 (by omega) (by omega)).trans hov
    rcases (show (op_judge x y S).1 = 1 ∨ (op_judge x y S).1 = 2 ∨ (op_judge x y S).1 = 3 by omega) with qq | qq | qq
    · have q : (op_judge x y S).1 = 1 := by omega
      have R := hk h2 ov I2 f2.1 (fun a z1 z2 => f2.2 a z1 (by omega)) hov2 (fun y => absurd y e0)
      have R : K (.inl (some (.int (nI (op_judge x y S).1)))) h2 := R
      rw [q] at R
      show nd_T _ _ _ _ _ _ _ _ _ (ex3 eNSE eISE eIAE (op_judge x y S).1) _ _ _ _
      rw [q]
      refine nd_catch hC (E := "java/util/NoSuchElementException") "java/util/NoSuchElementException" [] (0, 10, 13, 19) [(0, 10, 17, 46), (0, 10, 21, 13)] rfl rfl (fun z hz => ?_) (by decide) (by decide) q1931 q1947 ?_
      · exact absurd hz (List.not_mem_nil)
      refine nd_astore hC dX0_judge_13 (Nat.le_of_ble_eq_true rfl) rfl ?_
      refine nd_iconst hC (v := nI 1) (by rfl) dX0_judge_15 ?_
      exact nd_ireturn hC rfl rfl (by omega) (by omega) dX0_judge_16 R
    · have q : (op_judge x y S).1 = 2 := by omega
      have R := hk h2 ov I2 f2.1 (fun a z1 z2 => f2.2 a z1 (by omega)) hov2 (fun y => absurd y e0)
      have R : K (.inl (some (.int (nI (op_judge x y S).1)))) h2 := R
      rw [q] at R
      show nd_T _ _ _ _ _ _ _ _ _ (ex3 eNSE eISE eIAE (op_judge x y S).1) _ _ _ _
      rw [q]
      refine nd_catch hC (E := "java/lang/IllegalStateException") "java/lang/IllegalStateException" [(0, 10, 13, 19)] (0, 10, 17, 46) [(0, 10, 21, 13)] rfl rfl (fun z hz => ?_) (by decide) (by decide) q2020 q2030 ?_
      · have hz : z = ⟨0, 10, 13, 19⟩ := by simpa [tableOf] using hz
        rcases hz with hz
        · subst hz
          exact Or.inr ⟨by decide, "java/util/NoSuchElementException", q1931, nw_nc hC [false, false, true, true, false, true, false, true, true, true, true] rfl⟩
      refine nd_astore hC dX0_judge_17 (Nat.le_of_ble_eq_true rfl) rfl ?_
      refine nd_iconst hC (v := nI 2) (by rfl) dX0_judge_19 ?_
      exact nd_ireturn hC rfl rfl (by omega) (by omega) dX0_judge_20 R
    · have q : (op_judge x y S).1 = 3 := by omega
      have R := hk h2 ov I2 f2.1 (fun a z1 z2 => f2.2 a z1 (by omega)) hov2 (fun y => absurd y e0)
      have R : K (.inl (some (.int (nI (op_judge x y S).1)))) h2 := R
      rw [q] at R
      show nd_T _ _ _ _ _ _ _ _ _ (ex3 eNSE eISE eIAE (op_judge x y S).1) _ _ _ _
      rw [q]
      refine nd_catch hC (E := "java/lang/IllegalArgumentException") "java/lang/IllegalArgumentException" [(0, 10, 13, 19), (0, 10, 17, 46)] (0, 10, 21, 13) [] rfl rfl (fun z hz => ?_) (by decide) (by decide) q1529 q1109 ?_
      · have hz : z = ⟨0, 10, 13, 19⟩ ∨ z = ⟨0, 10, 17, 46⟩ := by simpa [tableOf] using hz
        rcases hz with hz | hz
        · subst hz
          exact Or.inr ⟨by decide, "java/util/NoSuchElementException", q1931, nw_nc hC [false, false, true, true, false, false, true, true, true, true, false] rfl⟩
        · subst hz
          exact Or.inr ⟨by decide, "java/lang/IllegalStateException", q2020, nw_nc hC [false, false, true, true, true, false, true, true, false, false] rfl⟩
      refine nd_astore hC dX0_judge_21 (Nat.le_of_ble_eq_true rfl) rfl ?_
      refine nd_iconst hC (v := nI 3) (by rfl) dX0_judge_23 ?_
      exact nd_ireturn hC rfl rfl (by omega) (by omega) dX0_judge_24 R
theorem wb_perform (x : Int32) (S : sy_S) : (op_perform x S).1 ≤ 2 := by
  have := ty_f_le x S
  have := mk_f_le x S
  have := cr_f_le x S
  have := sk_f_le x S
  unfold op_perform
  repeat' split
  all_goals first | exact Nat.zero_le _ | exact Nat.le_refl _ | (simp; done) | (simp; omega) | omega
theorem wx_perform (hg : nd_OK g) (hd : 11 ≤ d) (x : Int32) : wp_ok g mX0_perform d 290 1500 [.ref 0, .int x, .ref 122] (mp_i (op_perform x)) := by
  intro S h K ov hS hI hl hov hk
  obtain ⟨⟨x0, hO⟩, -⟩ : (∃ x, cx_O h (nI (sy_b S).length) (nI (sy_fk S)) (sy_fp S) x) ∧ True := by
    obtain ⟨-, o, nap, ds, gi, dss, hK⟩ := hI
    exact ⟨hK.1, trivial⟩
  unfold cx_O at hO
  have hbd := wb_perform x S
  have hL0 : 122 < h.length := by omega
  refine nd_enterH _ hg (by decide) rfl (Nat.le_of_ble_eq_true rfl) (fun X hC => ?_)
  refine nd_aload_n hC dX0_perform_0 rfl rfl ?_
  refine nd_iconst hC (v := nI 0) (by rfl) dX0_perform_1 ?_
  refine nd_aload_n hC dX0_perform_2 rfl rfl ?_
  refine nd_iload_n hC dX0_perform_3 rfl ?_
  refine nd_callV (mm2 := mX1_perform) (As := [_]) (mc2 := 290) (ms2 := 1500) (d2 := d - 1) hC rfl lkX0_61 ⟨rfl, lmX1_perform⟩ (hO) rfl (Nat.le_of_ble_eq_true rfl) (by omega) rfl (by exact Nat.le_of_ble_eq_true rfl) (by omega) (by omega) dX0_perform_4 rfl ((cp_perform hg (by omega) x S h _ hS hI hl (fun e0 h2 I2 f2 => ?_) (fun e0 h2 k I2 f2 => ?_)))
  · have hov2 := (f2.2 122 (by omega) (by omega)).trans hov
    first | with_reducible refine nd_i2lN hC (by omega) dX0_perform_7 ?_ | refine nd_i2l hC dX0_perform_7 ?_
    refine nd_lastoreN (j := 0) (n := 1) hC hov2 (by omega) (by omega) dX0_perform_8 ?_
    refine nd_goto hC (tgt := 18) dX0_perform_9 (by decide) ?_
    refine nd_iconst hC (v := nI 0) (by rfl) dX0_perform_18 ?_
    refine nd_ireturn hC rfl rfl (by omega) (by omega) dX0_perform_19 ?_
    have l2 : 122 < h2.length := by have := f2.1; omega
    have e1 : (op_perform x S).1 = 0 := e0
    suffices R : K (.inl (some (.int (nI (op_perform x S).1)))) _ by
      rw [e1] at R
      exact R
    exact hk _ _ I2.o122 (by rw [List.length_set]; exact f2.1) (fun a z1 z2 => (List.getElem?_set_ne (by omega)).trans (f2.2 a z1 (by omega))) (List.getElem?_set_self l2) (fun _ => rfl)
  · have e0 : (op_perform x S).1 ≠ 0 := e0
    have hov2 := (f2.2 122 (by omega) (by omega)).trans hov
    rcases (show (op_perform x S).1 = 1 ∨ (op_perform x S).1 = 2 by omega) with qq | qq
    · have q : (op_perform x S).1 = 1 := by omega
      have R := hk h2 ov I2 f2.1 (fun a z1 z2 => f2.2 a z1 (by omega)) hov2 (fun y => absurd y e0)
      have R : K (.inl (some (.int (nI (op_perform x S).1)))) h2 := R
      rw [q] at R
      show nd_T _ _ _ _ _ _ _ _ _ (ex2 eNSE eISE (op_perform x S).1) _ _ _ _
      rw [q]
      refine nd_catch hC (E := "java/util/NoSuchElementException") "java/util/NoSuchElementException" [] (0, 9, 12, 19) [(0, 9, 15, 46)] rfl rfl (fun z hz => ?_) (by decide) (by decide) q1931 q1947 ?_
      · exact absurd hz (List.not_mem_nil)
      refine nd_astore_n hC dX0_perform_12 (Nat.le_of_ble_eq_true rfl) rfl ?_
      refine nd_iconst hC (v := nI 1) (by rfl) dX0_perform_13 ?_
      exact nd_ireturn hC rfl rfl (by omega) (by omega) dX0_perform_14 R
    · have q : (op_perform x S).1 = 2 := by omega
      have R := hk h2 ov I2 f2.1 (fun a z1 z2 => f2.2 a z1 (by omega)) hov2 (fun y => absurd y e0)
      have R : K (.inl (some (.int (nI (op_perform x S).1)))) h2 := R
      rw [q] at R
      show nd_T _ _ _ _ _ _ _ _ _ (ex2 eNSE eISE (op_perform x S).1) _ _ _ _
      rw [q]
      refine nd_catch hC (E := "java/lang/IllegalStateException") "java/lang/IllegalStateException" [(0, 9, 12, 19)] (0, 9, 15, 46) [] rfl rfl (fun z hz => ?_) (by decide) (by decide) q2020 q2030 ?_
      · have hz : z = ⟨0, 9, 12, 19⟩ := by simpa [tableOf] using hz
        rcases hz with hz
        · subst hz
          exact Or.inr ⟨by decide, "java/util/NoSuchElementException", q1931, nw_nc hC [false, false, true, true, false, true, false, true, true, true, true] rfl⟩
      refine nd_astore_n hC dX0_perform_15 (Nat.le_of_ble_eq_true rfl) rfl ?_
      refine nd_iconst hC (v := nI 2) (by rfl) dX0_perform_16 ?_
      exact nd_ireturn hC rfl rfl (by omega) (by omega) dX0_perform_17 R
theorem wb_evening (x y : Int32) (S : sy_S) : (op_evening x y S).1 ≤ 1 := by
  have := ty_f_le x S
  have := mk_f_le x S
  have := cr_f_le x S
  have := sk_f_le x S
  have := sn_f_le x y S
  have := jd_f_le x y S
  unfold op_evening
  repeat' split
  all_goals first | exact Nat.zero_le _ | exact Nat.le_refl _ | (simp; done) | (simp; omega) | omega
theorem wx_evening (hg : nd_OK g) (hd : 10 ≤ d) (x y : Int32) : wp_ok g mX0_evening d 290 1500 [.ref 0, .int x, .int y, .ref 122] (mp_i (op_evening x y)) := by
  intro S h K ov hS hI hl hov hk
  obtain ⟨⟨x0, hO⟩, -⟩ : (∃ x, cx_O h (nI (sy_b S).length) (nI (sy_fk S)) (sy_fp S) x) ∧ True := by
    obtain ⟨-, o, nap, ds, gi, dss, hK⟩ := hI
    exact ⟨hK.1, trivial⟩
  unfold cx_O at hO
  have hbd := wb_evening x y S
  have hL0 : 122 < h.length := by omega
  refine nd_enterH _ hg (by decide) rfl (Nat.le_of_ble_eq_true rfl) (fun X hC => ?_)
  refine nd_aload_n hC dX0_evening_0 rfl rfl ?_
  refine nd_iconst hC (v := nI 0) (by rfl) dX0_evening_1 ?_
  refine nd_aload_n hC dX0_evening_2 rfl rfl ?_
  refine nd_iload_n hC dX0_evening_3 rfl ?_
  refine nd_iload_n hC dX0_evening_4 rfl ?_
  refine nd_callV (mm2 := mX1_evening) (As := [_, _]) (mc2 := 290) (ms2 := 1500) (d2 := d - 1) hC rfl lkX0_64 ⟨rfl, lmX1_evening⟩ (hO) rfl (Nat.le_of_ble_eq_true rfl) (by omega) rfl (by exact Nat.le_of_ble_eq_true rfl) (by omega) (by omega) dX0_evening_5 rfl ((cp_evening hg (by omega) x y S h _ hS hI hl (fun e0 h2 I2 f2 => ?_) (fun e0 h2 k I2 f2 => ?_)))
  · have hov2 := (f2.2 122 (by omega) (by omega)).trans hov
    first | with_reducible refine nd_i2lN hC (by omega) dX0_evening_8 ?_ | refine nd_i2l hC dX0_evening_8 ?_
    refine nd_lastoreN (j := 0) (n := 1) hC hov2 (by omega) (by omega) dX0_evening_9 ?_
    refine nd_goto hC (tgt := 17) dX0_evening_10 (by decide) ?_
    refine nd_iconst hC (v := nI 0) (by rfl) dX0_evening_17 ?_
    refine nd_ireturn hC rfl rfl (by omega) (by omega) dX0_evening_18 ?_
    have l2 : 122 < h2.length := by have := f2.1; omega
    have e1 : (op_evening x y S).1 = 0 := e0
    suffices R : K (.inl (some (.int (nI (op_evening x y S).1)))) _ by
      rw [e1] at R
      exact R
    exact hk _ _ I2.o122 (by rw [List.length_set]; exact f2.1) (fun a z1 z2 => (List.getElem?_set_ne (by omega)).trans (f2.2 a z1 (by omega))) (List.getElem?_set_self l2) (fun _ => rfl)
  · have e0 : (op_evening x y S).1 ≠ 0 := e0
    have hov2 := (f2.2 122 (by omega) (by omega)).trans hov
    have q : (op_evening x y S).1 = 1 := by omega
    have R := hk h2 ov I2 f2.1 (fun a z1 z2 => f2.2 a z1 (by omega)) hov2 (fun y => absurd y e0)
    have R : K (.inl (some (.int (nI (op_evening x y S).1)))) h2 := R
    rw [q] at R
    show nd_T _ _ _ _ _ _ _ _ _ (ex1 eIAE (op_evening x y S).1) _ _ _ _
    rw [q]
    refine nd_catch hC (E := "java/lang/IllegalArgumentException") "java/lang/IllegalArgumentException" [] (0, 10, 13, 13) [] rfl rfl (fun z hz => ?_) (by decide) (by decide) q1529 q1109 ?_
    · exact absurd hz (List.not_mem_nil)
    refine nd_astore hC dX0_evening_13 (Nat.le_of_ble_eq_true rfl) rfl ?_
    refine nd_iconst hC (v := nI 1) (by rfl) dX0_evening_15 ?_
    exact nd_ireturn hC rfl rfl (by omega) (by omega) dX0_evening_16 R
theorem wb_rows (x : Int32) (S : sy_S) : (op_rows x S).1 ≤ 1 := by
  have := ty_f_le x S
  have := mk_f_le x S
  have := cr_f_le x S
  have := sk_f_le x S
  unfold op_rows
  repeat' split
  all_goals first | exact Nat.zero_le _ | exact Nat.le_refl _ | (simp; done) | (simp; omega) | omega
theorem wx_rows (hg : nd_OK g) (hd : 21 ≤ d) (x : Int32) : wp_ok g mX0_rows d 4 24 [.ref 0, .int x, .ref 122] (mp_i (op_rows x)) := by
  intro S h K ov hS hI hl hov hk
  obtain ⟨⟨x0, hO⟩, -⟩ : (∃ x, cx_O h (nI (sy_b S).length) (nI (sy_fk S)) (sy_fp S) x) ∧ True := by
    obtain ⟨-, o, nap, ds, gi, dss, hK⟩ := hI
    exact ⟨hK.1, trivial⟩
  unfold cx_O at hO
  have hbd := wb_rows x S
  have hL0 : 122 < h.length := by omega
  refine nd_enterH _ hg (by decide) rfl (Nat.le_of_ble_eq_true rfl) (fun X hC => ?_)
  refine nd_aload_n hC dX0_rows_0 rfl rfl ?_
  refine nd_iconst hC (v := nI 0) (by rfl) dX0_rows_1 ?_
  refine nd_aload_n hC dX0_rows_2 rfl rfl ?_
  refine nd_iload_n hC dX0_rows_3 rfl ?_
  refine nd_callV (mm2 := mX1_rows) (As := [_]) (mc2 := 4) (ms2 := 24) (d2 := d - 1) hC rfl lkX0_67 ⟨rfl, lmX1_rows⟩ (hO) rfl (Nat.le_of_ble_eq_true rfl) (by omega) rfl (by exact Nat.le_of_ble_eq_true rfl) (by omega) (by omega) dX0_rows_4 rfl ((cp_rows hg (by omega) x S h _ hS hI hl (fun e0 h2 I2 f2 => ?_) (fun e0 h2 k I2 f2 => ?_)))
  · have hov2 := (f2.2 122 (by omega) (by omega)).trans hov
    first | with_reducible refine nd_i2lN hC (by omega) dX0_rows_7 ?_ | refine nd_i2l hC dX0_rows_7 ?_
    refine nd_lastoreN (j := 0) (n := 1) hC hov2 (by omega) (by omega) dX0_rows_8 ?_
    refine nd_goto hC (tgt := 15) dX0_rows_9 (by decide) ?_
    refine nd_iconst hC (v := nI 0) (by rfl) dX0_rows_15 ?_
    refine nd_ireturn hC rfl rfl (by omega) (by omega) dX0_rows_16 ?_
    have l2 : 122 < h2.length := by have := f2.1; omega
    have e1 : (op_rows x S).1 = 0 := e0
    suffices R : K (.inl (some (.int (nI (op_rows x S).1)))) _ by
      rw [e1] at R
      exact R
    exact hk _ _ I2.o122 (by rw [List.length_set]; exact f2.1) (fun a z1 z2 => (List.getElem?_set_ne (by omega)).trans (f2.2 a z1 (by omega))) (List.getElem?_set_self l2) (fun _ => rfl)
  · have e0 : (op_rows x S).1 ≠ 0 := e0
    have hov2 := (f2.2 122 (by omega) (by omega)).trans hov
    have q : (op_rows x S).1 = 1 := by omega
    have R := hk h2 ov I2 f2.1 (fun a z1 z2 => f2.2 a z1 (by omega)) hov2 (fun y => absurd y e0)
    have R : K (.inl (some (.int (nI (op_rows x S).1)))) h2 := R
    rw [q] at R
    show nd_T _ _ _ _ _ _ _ _ _ (ex1 eIAE (op_rows x S).1) _ _ _ _
    rw [q]
    refine nd_catch hC (E := "java/lang/IllegalArgumentException") "java/lang/IllegalArgumentException" [] (0, 9, 12, 13) [] rfl rfl (fun z hz => ?_) (by decide) (by decide) q1529 q1109 ?_
    · exact absurd hz (List.not_mem_nil)
    refine nd_astore_n hC dX0_rows_12 (Nat.le_of_ble_eq_true rfl) rfl ?_
    refine nd_iconst hC (v := nI 1) (by rfl) dX0_rows_13 ?_
    exact nd_ireturn hC rfl rfl (by omega) (by omega) dX0_rows_14 R
theorem wb_looks (x : Int32) (S : sy_S) : (op_looks x S).1 ≤ 1 := by
  have := ty_f_le x S
  have := mk_f_le x S
  have := cr_f_le x S
  have := sk_f_le x S
  unfold op_looks
  repeat' split
  all_goals try (unfold op_many; repeat' split)
  all_goals first | exact Nat.zero_le _ | exact Nat.le_refl _ | (simp; done) | (simp; omega) | omega
theorem wx_looks (hg : nd_OK g) (hd : 421 ≤ d) (x : Int32) : wp_ok g mX0_looks d 1210 80040 [.ref 0, .int x, .ref 122] (mp_i (op_looks x)) := by
  intro S h K ov hS hI hl hov hk
  obtain ⟨⟨x0, hO⟩, -⟩ : (∃ x, cx_O h (nI (sy_b S).length) (nI (sy_fk S)) (sy_fp S) x) ∧ True := by
    obtain ⟨-, o, nap, ds, gi, dss, hK⟩ := hI
    exact ⟨hK.1, trivial⟩
  unfold cx_O at hO
  have hbd := wb_looks x S
  have hL0 : 122 < h.length := by omega
  refine nd_enterH _ hg (by decide) rfl (Nat.le_of_ble_eq_true rfl) (fun X hC => ?_)
  refine nd_aload_n hC dX0_looks_0 rfl rfl ?_
  refine nd_iconst hC (v := nI 0) (by rfl) dX0_looks_1 ?_
  refine nd_aload_n hC dX0_looks_2 rfl rfl ?_
  refine nd_iload_n hC dX0_looks_3 rfl ?_
  refine nd_callV (mm2 := mX1_looks) (As := [_]) (mc2 := 1210) (ms2 := 80040) (d2 := d - 1) hC rfl lkX0_70 ⟨rfl, lmX1_looks⟩ (hO) rfl (Nat.le_of_ble_eq_true rfl) (by omega) rfl (by exact Nat.le_of_ble_eq_true rfl) (by omega) (by omega) dX0_looks_4 rfl ((cp_looks hg (by omega) x S h _ hS hI hl (fun e0 h2 I2 f2 => ?_) (fun e0 h2 k I2 f2 => ?_)))
  · have hov2 := (f2.2 122 (by omega) (by omega)).trans hov
    first | with_reducible refine nd_i2lN hC (by omega) dX0_looks_7 ?_ | refine nd_i2l hC dX0_looks_7 ?_
    refine nd_lastoreN (j := 0) (n := 1) hC hov2 (by omega) (by omega) dX0_looks_8 ?_
    refine nd_goto hC (tgt := 15) dX0_looks_9 (by decide) ?_
    refine nd_iconst hC (v := nI 0) (by rfl) dX0_looks_15 ?_
    refine nd_ireturn hC rfl rfl (by omega) (by omega) dX0_looks_16 ?_
    have l2 : 122 < h2.length := by have := f2.1; omega
    have e1 : (op_looks x S).1 = 0 := e0
    suffices R : K (.inl (some (.int (nI (op_looks x S).1)))) _ by
      rw [e1] at R
      exact R
    exact hk _ _ I2.o122 (by rw [List.length_set]; exact f2.1) (fun a z1 z2 => (List.getElem?_set_ne (by omega)).trans (f2.2 a z1 (by omega))) (List.getElem?_set_self l2) (fun _ => rfl)
  · have e0 : (op_looks x S).1 ≠ 0 := e0
    have hov2 := (f2.2 122 (by omega) (by omega)).trans hov
    have q : (op_looks x S).1 = 1 := by omega
    have R := hk h2 ov I2 f2.1 (fun a z1 z2 => f2.2 a z1 (by omega)) hov2 (fun y => absurd y e0)
    have R : K (.inl (some (.int (nI (op_looks x S).1)))) h2 := R
    rw [q] at R
    show nd_T _ _ _ _ _ _ _ _ _ (ex1 eIAE (op_looks x S).1) _ _ _ _
    rw [q]
    refine nd_catch hC (E := "java/lang/IllegalArgumentException") "java/lang/IllegalArgumentException" [] (0, 9, 12, 13) [] rfl rfl (fun z hz => ?_) (by decide) (by decide) q1529 q1109 ?_
    · exact absurd hz (List.not_mem_nil)
    refine nd_astore_n hC dX0_looks_12 (Nat.le_of_ble_eq_true rfl) rfl ?_
    refine nd_iconst hC (v := nI 1) (by rfl) dX0_looks_13 ?_
    exact nd_ireturn hC rfl rfl (by omega) (by omega) dX0_looks_14 R
theorem wb_soonest (x : Int32) (S : sy_S) : (op_soonest x S).1 ≤ 1 := by
  have := ty_f_le x S
  have := mk_f_le x S
  have := cr_f_le x S
  have := sk_f_le x S
  unfold op_soonest
  repeat' split
  all_goals first | exact Nat.zero_le _ | exact Nat.le_refl _ | (simp; done) | (simp; omega) | omega
theorem wx_soonest (hg : nd_OK g) (hd : 941 ≤ d) (x : Int32) : wp_ok g mX0_soonest d 6 40 [.ref 0, .int x, .ref 122] (mp_i (op_soonest x)) := by
  intro S h K ov hS hI hl hov hk
  obtain ⟨⟨x0, hO⟩, -⟩ : (∃ x, cx_O h (nI (sy_b S).length) (nI (sy_fk S)) (sy_fp S) x) ∧ True := by
    obtain ⟨-, o, nap, ds, gi, dss, hK⟩ := hI
    exact ⟨hK.1, trivial⟩
  unfold cx_O at hO
  have hbd := wb_soonest x S
  have hL0 : 122 < h.length := by omega
  refine nd_enterH _ hg (by decide) rfl (Nat.le_of_ble_eq_true rfl) (fun X hC => ?_)
  refine nd_aload_n hC dX0_soonest_0 rfl rfl ?_
  refine nd_iconst hC (v := nI 0) (by rfl) dX0_soonest_1 ?_
  refine nd_aload_n hC dX0_soonest_2 rfl rfl ?_
  refine nd_iload_n hC dX0_soonest_3 rfl ?_
  refine nd_callV (mm2 := mX1_soonest) (As := [_]) (mc2 := 6) (ms2 := 40) (d2 := d - 1) hC rfl lkX0_73 ⟨rfl, lmX1_soonest⟩ (hO) rfl (Nat.le_of_ble_eq_true rfl) (by omega) rfl (by exact Nat.le_of_ble_eq_true rfl) (by omega) (by omega) dX0_soonest_4 rfl ((cp_soonest hg (by omega) x S h _ hS hI hl (fun e0 h2 I2 f2 => ?_) (fun e0 h2 k I2 f2 => ?_)))
  · have hov2 := (f2.2 122 (by omega) (by omega)).trans hov
    first | with_reducible refine nd_i2lN hC (by omega) dX0_soonest_7 ?_ | refine nd_i2l hC dX0_soonest_7 ?_
    refine nd_lastoreN (j := 0) (n := 1) hC hov2 (by omega) (by omega) dX0_soonest_8 ?_
    refine nd_goto hC (tgt := 15) dX0_soonest_9 (by decide) ?_
    refine nd_iconst hC (v := nI 0) (by rfl) dX0_soonest_15 ?_
    refine nd_ireturn hC rfl rfl (by omega) (by omega) dX0_soonest_16 ?_
    have l2 : 122 < h2.length := by have := f2.1; omega
    have e1 : (op_soonest x S).1 = 0 := e0
    suffices R : K (.inl (some (.int (nI (op_soonest x S).1)))) _ by
      rw [e1] at R
      exact R
    exact hk _ _ I2.o122 (by rw [List.length_set]; exact f2.1) (fun a z1 z2 => (List.getElem?_set_ne (by omega)).trans (f2.2 a z1 (by omega))) (List.getElem?_set_self l2) (fun _ => rfl)
  · have e0 : (op_soonest x S).1 ≠ 0 := e0
    have hov2 := (f2.2 122 (by omega) (by omega)).trans hov
    have q : (op_soonest x S).1 = 1 := by omega
    have R := hk h2 ov I2 f2.1 (fun a z1 z2 => f2.2 a z1 (by omega)) hov2 (fun y => absurd y e0)
    have R : K (.inl (some (.int (nI (op_soonest x S).1)))) h2 := R
    rw [q] at R
    show nd_T _ _ _ _ _ _ _ _ _ (ex1 eIAE (op_soonest x S).1) _ _ _ _
    rw [q]
    refine nd_catch hC (E := "java/lang/IllegalArgumentException") "java/lang/IllegalArgumentException" [] (0, 9, 12, 13) [] rfl rfl (fun z hz => ?_) (by decide) (by decide) q1529 q1109 ?_
    · exact absurd hz (List.not_mem_nil)
    refine nd_astore_n hC dX0_soonest_12 (Nat.le_of_ble_eq_true rfl) rfl ?_
    refine nd_iconst hC (v := nI 1) (by rfl) dX0_soonest_13 ?_
    exact nd_ireturn hC rfl rfl (by omega) (by omega) dX0_soonest_14 R
theorem wb_holding (x : Int32) (S : sy_S) : (op_holding x S).1 ≤ 1 := by
  have := ty_f_le x S
  have := mk_f_le x S
  have := cr_f_le x S
  have := sk_f_le x S
  unfold op_holding
  repeat' split
  all_goals try (unfold op_many; repeat' split)
  all_goals first | exact Nat.zero_le _ | exact Nat.le_refl _ | (simp; done) | (simp; omega) | omega
theorem wx_holding (hg : nd_OK g) (hd : 941 ≤ d) (x : Int32) : wp_ok g mX0_holding d 1210 80040 [.ref 0, .int x, .ref 122] (mp_i (op_holding x)) := by
  intro S h K ov hS hI hl hov hk
  obtain ⟨⟨x0, hO⟩, -⟩ : (∃ x, cx_O h (nI (sy_b S).length) (nI (sy_fk S)) (sy_fp S) x) ∧ True := by
    obtain ⟨-, o, nap, ds, gi, dss, hK⟩ := hI
    exact ⟨hK.1, trivial⟩
  unfold cx_O at hO
  have hbd := wb_holding x S
  have hL0 : 122 < h.length := by omega
  refine nd_enterH _ hg (by decide) rfl (Nat.le_of_ble_eq_true rfl) (fun X hC => ?_)
  refine nd_aload_n hC dX0_holding_0 rfl rfl ?_
  refine nd_iconst hC (v := nI 0) (by rfl) dX0_holding_1 ?_
  refine nd_aload_n hC dX0_holding_2 rfl rfl ?_
  refine nd_iload_n hC dX0_holding_3 rfl ?_
  refine nd_callV (mm2 := mX1_holding) (As := [_]) (mc2 := 1210) (ms2 := 80040) (d2 := d - 1) hC rfl lkX0_76 ⟨rfl, lmX1_holding⟩ (hO) rfl (Nat.le_of_ble_eq_true rfl) (by omega) rfl (by exact Nat.le_of_ble_eq_true rfl) (by omega) (by omega) dX0_holding_4 rfl ((cp_holding hg (by omega) x S h _ hS hI hl (fun e0 h2 I2 f2 => ?_) (fun e0 h2 k I2 f2 => ?_)))
  · have hov2 := (f2.2 122 (by omega) (by omega)).trans hov
    first | with_reducible refine nd_i2lN hC (by omega) dX0_holding_7 ?_ | refine nd_i2l hC dX0_holding_7 ?_
    refine nd_lastoreN (j := 0) (n := 1) hC hov2 (by omega) (by omega) dX0_holding_8 ?_
    refine nd_goto hC (tgt := 15) dX0_holding_9 (by decide) ?_
    refine nd_iconst hC (v := nI 0) (by rfl) dX0_holding_15 ?_
    refine nd_ireturn hC rfl rfl (by omega) (by omega) dX0_holding_16 ?_
    have l2 : 122 < h2.length := by have := f2.1; omega
    have e1 : (op_holding x S).1 = 0 := e0
    suffices R : K (.inl (some (.int (nI (op_holding x S).1)))) _ by
      rw [e1] at R
      exact R
    exact hk _ _ I2.o122 (by rw [List.length_set]; exact f2.1) (fun a z1 z2 => (List.getElem?_set_ne (by omega)).trans (f2.2 a z1 (by omega))) (List.getElem?_set_self l2) (fun _ => rfl)
  · have e0 : (op_holding x S).1 ≠ 0 := e0
    have hov2 := (f2.2 122 (by omega) (by omega)).trans hov
    have q : (op_holding x S).1 = 1 := by omega
    have R := hk h2 ov I2 f2.1 (fun a z1 z2 => f2.2 a z1 (by omega)) hov2 (fun y => absurd y e0)
    have R : K (.inl (some (.int (nI (op_holding x S).1)))) h2 := R
    rw [q] at R
    show nd_T _ _ _ _ _ _ _ _ _ (ex1 eIAE (op_holding x S).1) _ _ _ _
    rw [q]
    refine nd_catch hC (E := "java/lang/IllegalArgumentException") "java/lang/IllegalArgumentException" [] (0, 9, 12, 13) [] rfl rfl (fun z hz => ?_) (by decide) (by decide) q1529 q1109 ?_
    · exact absurd hz (List.not_mem_nil)
    refine nd_astore_n hC dX0_holding_12 (Nat.le_of_ble_eq_true rfl) rfl ?_
    refine nd_iconst hC (v := nI 1) (by rfl) dX0_holding_13 ?_
    exact nd_ireturn hC rfl rfl (by omega) (by omega) dX0_holding_14 R
theorem wb_best (x y : Int32) (S : sy_S) : (op_best x y S).1 ≤ 1 := by
  have := ty_f_le x S
  have := mk_f_le x S
  have := cr_f_le x S
  have := sk_f_le x S
  have := sn_f_le x y S
  have := jd_f_le x y S
  unfold op_best
  repeat' split
  all_goals try (unfold op_bestBy; repeat' split)
  all_goals first | exact Nat.zero_le _ | exact Nat.le_refl _ | (simp; done) | (simp; omega) | omega
theorem wx_best (hg : nd_OK g) (hd : 961 ≤ d) (x y : Int32) : wp_ok g mX0_best d 10 60 [.ref 0, .int x, .int y, .ref 122] (mp_i (op_best x y)) := by
  intro S h K ov hS hI hl hov hk
  obtain ⟨⟨x0, hO⟩, -⟩ : (∃ x, cx_O h (nI (sy_b S).length) (nI (sy_fk S)) (sy_fp S) x) ∧ True := by
    obtain ⟨-, o, nap, ds, gi, dss, hK⟩ := hI
    exact ⟨hK.1, trivial⟩
  unfold cx_O at hO
  have hbd := wb_best x y S
  have hL0 : 122 < h.length := by omega
  refine nd_enterH _ hg (by decide) rfl (Nat.le_of_ble_eq_true rfl) (fun X hC => ?_)
  refine nd_aload_n hC dX0_best_0 rfl rfl ?_
  refine nd_iconst hC (v := nI 0) (by rfl) dX0_best_1 ?_
  refine nd_aload_n hC dX0_best_2 rfl rfl ?_
  refine nd_iload_n hC dX0_best_3 rfl ?_
  refine nd_iload_n hC dX0_best_4 rfl ?_
  refine nd_callV (mm2 := mX1_best) (As := [_, _]) (mc2 := 10) (ms2 := 60) (d2 := d - 1) hC rfl lkX0_79 ⟨rfl, lmX1_best⟩ (hO) rfl (Nat.le_of_ble_eq_true rfl) (by omega) rfl (by exact Nat.le_of_ble_eq_true rfl) (by omega) (by omega) dX0_best_5 rfl ((cp_best hg (by omega) x y S h _ hS hI hl (fun e0 h2 I2 f2 => ?_) (fun e0 h2 k I2 f2 => ?_)))
  · have hov2 := (f2.2 122 (by omega) (by omega)).trans hov
    first | with_reducible refine nd_i2lN hC (by omega) dX0_best_8 ?_ | refine nd_i2l hC dX0_best_8 ?_
    refine nd_lastoreN (j := 0) (n := 1) hC hov2 (by omega) (by omega) dX0_best_9 ?_
    refine nd_goto hC (tgt := 17) dX0_best_10 (by decide) ?_
    refine nd_iconst hC (v := nI 0) (by rfl) dX0_best_17 ?_
    refine nd_ireturn hC rfl rfl (by omega) (by omega) dX0_best_18 ?_
    have l2 : 122 < h2.length := by have := f2.1; omega
    have e1 : (op_best x y S).1 = 0 := e0
    suffices R : K (.inl (some (.int (nI (op_best x y S).1)))) _ by
      rw [e1] at R
      exact R
    exact hk _ _ I2.o122 (by rw [List.length_set]; exact f2.1) (fun a z1 z2 => (List.getElem?_set_ne (by omega)).trans (f2.2 a z1 (by omega))) (List.getElem?_set_self l2) (fun _ => rfl)
  · have e0 : (op_best x y S).1 ≠ 0 := e0
    have hov2 := (f2.2 122 (by omega) (by omega)).trans hov
    have q : (op_best x y S).1 = 1 := by omega
    have R := hk h2 ov I2 f2.1 (fun a z1 z2 => f2.2 a z1 (by omega)) hov2 (fun y => absurd y e0)
    have R : K (.inl (some (.int (nI (op_best x y S).1)))) h2 := R
    rw [q] at R
    show nd_T _ _ _ _ _ _ _ _ _ (ex1 eIAE (op_best x y S).1) _ _ _ _
    rw [q]
    refine nd_catch hC (E := "java/lang/IllegalArgumentException") "java/lang/IllegalArgumentException" [] (0, 10, 13, 13) [] rfl rfl (fun z hz => ?_) (by decide) (by decide) q1529 q1109 ?_
    · exact absurd hz (List.not_mem_nil)
    refine nd_astore hC dX0_best_13 (Nat.le_of_ble_eq_true rfl) rfl ?_
    refine nd_iconst hC (v := nI 1) (by rfl) dX0_best_15 ?_
    exact nd_ireturn hC rfl rfl (by omega) (by omega) dX0_best_16 R
theorem wb_reads (x y : Int32) (S : sy_S) : (op_reads x y S).1 ≤ 3 := by
  have := ty_f_le x S
  have := mk_f_le x S
  have := cr_f_le x S
  have := sk_f_le x S
  have := sn_f_le x y S
  have := jd_f_le x y S
  unfold op_reads
  repeat' split
  all_goals first | exact Nat.zero_le _ | exact Nat.le_refl _ | (simp; done) | (simp; omega) | omega
theorem wx_reads (hg : nd_OK g) (hd : 941 ≤ d) (x y : Int32) : wp_ok g mX0_reads d 12 80 [.ref 0, .int x, .int y, .ref 122] (mp_i (op_reads x y)) := by
  intro S h K ov hS hI hl hov hk
  obtain ⟨⟨x0, hO⟩, -⟩ : (∃ x, cx_O h (nI (sy_b S).length) (nI (sy_fk S)) (sy_fp S) x) ∧ True := by
    obtain ⟨-, o, nap, ds, gi, dss, hK⟩ := hI
    exact ⟨hK.1, trivial⟩
  unfold cx_O at hO
  have hbd := wb_reads x y S
  have hL0 : 122 < h.length := by omega
  refine nd_enterH _ hg (by decide) rfl (Nat.le_of_ble_eq_true rfl) (fun X hC => ?_)
  refine nd_aload_n hC dX0_reads_0 rfl rfl ?_
  refine nd_iconst hC (v := nI 0) (by rfl) dX0_reads_1 ?_
  refine nd_aload_n hC dX0_reads_2 rfl rfl ?_
  refine nd_iload_n hC dX0_reads_3 rfl ?_
  refine nd_iload_n hC dX0_reads_4 rfl ?_
  refine nd_callV (mm2 := mX1_reads_2) (As := [_, _]) (mc2 := 12) (ms2 := 80) (d2 := d - 1) hC rfl lkX0_82 ⟨rfl, lmX1_reads_2⟩ (hO) rfl (Nat.le_of_ble_eq_true rfl) (by omega) rfl (by exact Nat.le_of_ble_eq_true rfl) (by omega) (by omega) dX0_reads_5 rfl ((cp_reads_2 hg (by omega) x y S h _ hS hI hl (fun e0 h2 I2 f2 => ?_) (fun e0 h2 k I2 f2 => ?_)))
  · have hov2 := (f2.2 122 (by omega) (by omega)).trans hov
    first | with_reducible refine nd_i2lN hC (by omega) dX0_reads_8 ?_ | refine nd_i2l hC dX0_reads_8 ?_
    refine nd_lastoreN (j := 0) (n := 1) hC hov2 (by omega) (by omega) dX0_reads_9 ?_
    refine nd_goto hC (tgt := 25) dX0_reads_10 (by decide) ?_
    refine nd_iconst hC (v := nI 0) (by rfl) dX0_reads_25 ?_
    refine nd_ireturn hC rfl rfl (by omega) (by omega) dX0_reads_26 ?_
    have l2 : 122 < h2.length := by have := f2.1; omega
    have e1 : (op_reads x y S).1 = 0 := e0
    suffices R : K (.inl (some (.int (nI (op_reads x y S).1)))) _ by
      rw [e1] at R
      exact R
    exact hk _ _ I2.o122 (by rw [List.length_set]; exact f2.1) (fun a z1 z2 => (List.getElem?_set_ne (by omega)).trans (f2.2 a z1 (by omega))) (List.getElem?_set_self l2) (fun _ => rfl)
  · have e0 : (op_reads x y S).1 ≠ 0 := e0
    have hov2 := (f2.2 122 (by omega) (by omega)).trans hov
    rcases (show (op_reads x y S).1 = 1 ∨ (op_reads x y S).1 = 2 ∨ (op_reads x y S).1 = 3 by omega) with qq | qq | qq
    · have q : (op_reads x y S).1 = 1 := by omega
      have R := hk h2 ov I2 f2.1 (fun a z1 z2 => f2.2 a z1 (by omega)) hov2 (fun y => absurd y e0)
      have R : K (.inl (some (.int (nI (op_reads x y S).1)))) h2 := R
      rw [q] at R
      show nd_T _ _ _ _ _ _ _ _ _ (ex3 eNSE eISE eIAE (op_reads x y S).1) _ _ _ _
      rw [q]
      refine nd_catch hC (E := "java/util/NoSuchElementException") "java/util/NoSuchElementException" [] (0, 10, 13, 19) [(0, 10, 17, 46), (0, 10, 21, 13)] rfl rfl (fun z hz => ?_) (by decide) (by decide) q1931 q1947 ?_
      · exact absurd hz (List.not_mem_nil)
      refine nd_astore hC dX0_reads_13 (Nat.le_of_ble_eq_true rfl) rfl ?_
      refine nd_iconst hC (v := nI 1) (by rfl) dX0_reads_15 ?_
      exact nd_ireturn hC rfl rfl (by omega) (by omega) dX0_reads_16 R
    · have q : (op_reads x y S).1 = 2 := by omega
      have R := hk h2 ov I2 f2.1 (fun a z1 z2 => f2.2 a z1 (by omega)) hov2 (fun y => absurd y e0)
      have R : K (.inl (some (.int (nI (op_reads x y S).1)))) h2 := R
      rw [q] at R
      show nd_T _ _ _ _ _ _ _ _ _ (ex3 eNSE eISE eIAE (op_reads x y S).1) _ _ _ _
      rw [q]
      refine nd_catch hC (E := "java/lang/IllegalStateException") "java/lang/IllegalStateException" [(0, 10, 13, 19)] (0, 10, 17, 46) [(0, 10, 21, 13)] rfl rfl (fun z hz => ?_) (by decide) (by decide) q2020 q2030 ?_
      · have hz : z = ⟨0, 10, 13, 19⟩ := by simpa [tableOf] using hz
        rcases hz with hz
        · subst hz
          exact Or.inr ⟨by decide, "java/util/NoSuchElementException", q1931, nw_nc hC [false, false, true, true, false, true, false, true, true, true, true] rfl⟩
      refine nd_astore hC dX0_reads_17 (Nat.le_of_ble_eq_true rfl) rfl ?_
      refine nd_iconst hC (v := nI 2) (by rfl) dX0_reads_19 ?_
      exact nd_ireturn hC rfl rfl (by omega) (by omega) dX0_reads_20 R
    · have q : (op_reads x y S).1 = 3 := by omega
      have R := hk h2 ov I2 f2.1 (fun a z1 z2 => f2.2 a z1 (by omega)) hov2 (fun y => absurd y e0)
      have R : K (.inl (some (.int (nI (op_reads x y S).1)))) h2 := R
      rw [q] at R
      show nd_T _ _ _ _ _ _ _ _ _ (ex3 eNSE eISE eIAE (op_reads x y S).1) _ _ _ _
      rw [q]
      refine nd_catch hC (E := "java/lang/IllegalArgumentException") "java/lang/IllegalArgumentException" [(0, 10, 13, 19), (0, 10, 17, 46)] (0, 10, 21, 13) [] rfl rfl (fun z hz => ?_) (by decide) (by decide) q1529 q1109 ?_
      · have hz : z = ⟨0, 10, 13, 19⟩ ∨ z = ⟨0, 10, 17, 46⟩ := by simpa [tableOf] using hz
        rcases hz with hz | hz
        · subst hz
          exact Or.inr ⟨by decide, "java/util/NoSuchElementException", q1931, nw_nc hC [false, false, true, true, false, false, true, true, true, true, false] rfl⟩
        · subst hz
          exact Or.inr ⟨by decide, "java/lang/IllegalStateException", q2020, nw_nc hC [false, false, true, true, true, false, true, true, false, false] rfl⟩
      refine nd_astore hC dX0_reads_21 (Nat.le_of_ble_eq_true rfl) rfl ?_
      refine nd_iconst hC (v := nI 3) (by rfl) dX0_reads_23 ?_
      exact nd_ireturn hC rfl rfl (by omega) (by omega) dX0_reads_24 R
theorem wb_stands (x : Int32) (S : sy_S) : (op_stands x S).1 ≤ 3 := by
  have := ty_f_le x S
  have := mk_f_le x S
  have := cr_f_le x S
  have := sk_f_le x S
  unfold op_stands
  repeat' split
  all_goals first | exact Nat.zero_le _ | exact Nat.le_refl _ | (simp; done) | (simp; omega) | omega
theorem wx_stands (hg : nd_OK g) (hd : 9 ≤ d) (x : Int32) : wp_ok g mX0_stands d 14 90 [.ref 0, .int x, .ref 122] (mp_i (op_stands x)) := by
  intro S h K ov hS hI hl hov hk
  obtain ⟨⟨x0, hO⟩, -⟩ : (∃ x, cx_O h (nI (sy_b S).length) (nI (sy_fk S)) (sy_fp S) x) ∧ True := by
    obtain ⟨-, o, nap, ds, gi, dss, hK⟩ := hI
    exact ⟨hK.1, trivial⟩
  unfold cx_O at hO
  have hbd := wb_stands x S
  have hL0 : 122 < h.length := by omega
  refine nd_enterH _ hg (by decide) rfl (Nat.le_of_ble_eq_true rfl) (fun X hC => ?_)
  refine nd_aload_n hC dX0_stands_0 rfl rfl ?_
  refine nd_iconst hC (v := nI 0) (by rfl) dX0_stands_1 ?_
  refine nd_aload_n hC dX0_stands_2 rfl rfl ?_
  refine nd_iload_n hC dX0_stands_3 rfl ?_
  refine nd_callV (mm2 := mX1_stands_2) (As := [_]) (mc2 := 14) (ms2 := 90) (d2 := d - 1) hC rfl lkX0_85 ⟨rfl, lmX1_stands_2⟩ (hO) rfl (Nat.le_of_ble_eq_true rfl) (by omega) rfl (by exact Nat.le_of_ble_eq_true rfl) (by omega) (by omega) dX0_stands_4 rfl ((cp_stands_2 hg (by omega) x S h _ hS hI hl (fun e0 h2 I2 f2 => ?_) (fun e0 h2 k I2 f2 => ?_)))
  · have hov2 := (f2.2 122 (by omega) (by omega)).trans hov
    have l2 : 122 < h2.length := by have := f2.1; omega
    have e1 : (op_stands x S).1 = 0 := e0
    have hv2 : ∃ b, (op_stands x S).2.1 = nd_b b := by
      have e2 := e1
      unfold op_stands at e2 ⊢
      by_cases y : sk_f x S = 0
      · rw [if_pos y]; exact ⟨_, rfl⟩
      · rw [if_neg y] at e2; exact absurd e2 y
    obtain ⟨bv, hbv⟩ := hv2
    have FIN : ∀ v : Int64, v = ((op_stands x S).2.1).toInt64 → nd_W g mX0_stands d 14 90 K X 15 [some (.ref 0), some (.int x), some (.ref 122), none] [.long v, .int (nI 0), .ref 122] h2 (0 + 14) (0 + 90) := by
      intro v hv
      refine nd_lastoreN (j := 0) (n := 1) hC hov2 (by omega) (by omega) dX0_stands_15 ?_
      refine nd_goto hC (tgt := 28) dX0_stands_16 (by decide) ?_
      refine nd_iconst hC (v := nI 0) (by rfl) dX0_stands_28 ?_
      refine nd_ireturn hC rfl rfl (by omega) (by omega) dX0_stands_29 ?_
      suffices R : K (.inl (some (.int (nI (op_stands x S).1)))) _ by
        rw [e1] at R
        exact R
      refine hk _ _ I2.o122 (by rw [List.length_set]; exact f2.1) (fun a z1 z2 => (List.getElem?_set_ne (by omega)).trans (f2.2 a z1 (by omega))) (List.getElem?_set_self l2) (fun _ => ?_)
      exact hv
    show nd_W _ _ _ _ _ _ _ _ _ (.int (op_stands x S).2.1 :: _) _ _ _
    rw [hbv]
    cases bv with
    | true =>
      refine nd_if_eqB hC (tgt := 14) dX0_stands_7 (by decide) (fun hq => absurd hq (by decide)) (fun _ => ?_)
      refine nd_lconst hC (v := lN 1) (by rfl) dX0_stands_10 ?_
      refine nd_goto hC (tgt := 15) dX0_stands_11 (by decide) ?_
      exact nd_widen (by omega) (by omega) (FIN _ (by rw [hbv]; rfl))
    | false =>
      refine nd_if_eqB hC (tgt := 14) dX0_stands_7 (by decide) (fun _ => ?_) (fun hq => absurd hq (by decide))
      refine nd_lconst hC (v := lN 0) (by rfl) dX0_stands_14 ?_
      exact nd_widen (by omega) (by omega) (FIN _ (by rw [hbv]; rfl))
  · have e0 : (op_stands x S).1 ≠ 0 := e0
    have hov2 := (f2.2 122 (by omega) (by omega)).trans hov
    rcases (show (op_stands x S).1 = 1 ∨ (op_stands x S).1 = 2 ∨ (op_stands x S).1 = 3 by omega) with qq | qq | qq
    · have q : (op_stands x S).1 = 1 := by omega
      have R := hk h2 ov I2 f2.1 (fun a z1 z2 => f2.2 a z1 (by omega)) hov2 (fun y => absurd y e0)
      have R : K (.inl (some (.int (nI (op_stands x S).1)))) h2 := R
      rw [q] at R
      show nd_T _ _ _ _ _ _ _ _ _ (ex3 eNSE eISE eIAE (op_stands x S).1) _ _ _ _
      rw [q]
      refine nd_catch hC (E := "java/util/NoSuchElementException") "java/util/NoSuchElementException" [] (0, 16, 19, 19) [(0, 16, 22, 46), (0, 16, 25, 13)] rfl rfl (fun z hz => ?_) (by decide) (by decide) q1931 q1947 ?_
      · exact absurd hz (List.not_mem_nil)
      refine nd_astore_n hC dX0_stands_19 (Nat.le_of_ble_eq_true rfl) rfl ?_
      refine nd_iconst hC (v := nI 1) (by rfl) dX0_stands_20 ?_
      exact nd_ireturn hC rfl rfl (by omega) (by omega) dX0_stands_21 R
    · have q : (op_stands x S).1 = 2 := by omega
      have R := hk h2 ov I2 f2.1 (fun a z1 z2 => f2.2 a z1 (by omega)) hov2 (fun y => absurd y e0)
      have R : K (.inl (some (.int (nI (op_stands x S).1)))) h2 := R
      rw [q] at R
      show nd_T _ _ _ _ _ _ _ _ _ (ex3 eNSE eISE eIAE (op_stands x S).1) _ _ _ _
      rw [q]
      refine nd_catch hC (E := "java/lang/IllegalStateException") "java/lang/IllegalStateException" [(0, 16, 19, 19)] (0, 16, 22, 46) [(0, 16, 25, 13)] rfl rfl (fun z hz => ?_) (by decide) (by decide) q2020 q2030 ?_
      · have hz : z = ⟨0, 16, 19, 19⟩ := by simpa [tableOf] using hz
        rcases hz with hz
        · subst hz
          exact Or.inr ⟨by decide, "java/util/NoSuchElementException", q1931, nw_nc hC [false, false, true, true, false, true, false, true, true, true, true] rfl⟩
      refine nd_astore_n hC dX0_stands_22 (Nat.le_of_ble_eq_true rfl) rfl ?_
      refine nd_iconst hC (v := nI 2) (by rfl) dX0_stands_23 ?_
      exact nd_ireturn hC rfl rfl (by omega) (by omega) dX0_stands_24 R
    · have q : (op_stands x S).1 = 3 := by omega
      have R := hk h2 ov I2 f2.1 (fun a z1 z2 => f2.2 a z1 (by omega)) hov2 (fun y => absurd y e0)
      have R : K (.inl (some (.int (nI (op_stands x S).1)))) h2 := R
      rw [q] at R
      show nd_T _ _ _ _ _ _ _ _ _ (ex3 eNSE eISE eIAE (op_stands x S).1) _ _ _ _
      rw [q]
      refine nd_catch hC (E := "java/lang/IllegalArgumentException") "java/lang/IllegalArgumentException" [(0, 16, 19, 19), (0, 16, 22, 46)] (0, 16, 25, 13) [] rfl rfl (fun z hz => ?_) (by decide) (by decide) q1529 q1109 ?_
      · have hz : z = ⟨0, 16, 19, 19⟩ ∨ z = ⟨0, 16, 22, 46⟩ := by simpa [tableOf] using hz
        rcases hz with hz | hz
        · subst hz
          exact Or.inr ⟨by decide, "java/util/NoSuchElementException", q1931, nw_nc hC [false, false, true, true, false, false, true, true, true, true, false] rfl⟩
        · subst hz
          exact Or.inr ⟨by decide, "java/lang/IllegalStateException", q2020, nw_nc hC [false, false, true, true, true, false, true, true, false, false] rfl⟩
      refine nd_astore_n hC dX0_stands_25 (Nat.le_of_ble_eq_true rfl) rfl ?_
      refine nd_iconst hC (v := nI 3) (by rfl) dX0_stands_26 ?_
      exact nd_ireturn hC rfl rfl (by omega) (by omega) dX0_stands_27 R
theorem wb_stack (x : Int32) (S : sy_S) : (op_stack x S).1 ≤ 3 := by
  have := ty_f_le x S
  have := mk_f_le x S
  have := cr_f_le x S
  have := sk_f_le x S
  unfold op_stack
  repeat' split
  all_goals first | exact Nat.zero_le _ | exact Nat.le_refl _ | (simp; done) | (simp; omega) | omega
theorem wx_stack (hg : nd_OK g) (hd : 41 ≤ d) (x : Int32) : wp_ok g mX0_stack d 20 120 [.ref 0, .int x, .ref 122] (mp_i (op_stack x)) := by
  intro S h K ov hS hI hl hov hk
  obtain ⟨⟨x0, hO⟩, -⟩ : (∃ x, cx_O h (nI (sy_b S).length) (nI (sy_fk S)) (sy_fp S) x) ∧ True := by
    obtain ⟨-, o, nap, ds, gi, dss, hK⟩ := hI
    exact ⟨hK.1, trivial⟩
  unfold cx_O at hO
  have hbd := wb_stack x S
  have hL0 : 122 < h.length := by omega
  refine nd_enterH _ hg (by decide) rfl (Nat.le_of_ble_eq_true rfl) (fun X hC => ?_)
  refine nd_aload_n hC dX0_stack_0 rfl rfl ?_
  refine nd_iconst hC (v := nI 0) (by rfl) dX0_stack_1 ?_
  refine nd_aload_n hC dX0_stack_2 rfl rfl ?_
  refine nd_iload_n hC dX0_stack_3 rfl ?_
  refine nd_callV (mm2 := mX1_stack) (As := [_]) (mc2 := 20) (ms2 := 120) (d2 := d - 1) hC rfl lkX0_89 ⟨rfl, lmX1_stack⟩ (hO) rfl (Nat.le_of_ble_eq_true rfl) (by omega) rfl (by exact Nat.le_of_ble_eq_true rfl) (by omega) (by omega) dX0_stack_4 rfl ((cp_stack hg (by omega) x S h _ hS hI hl (fun e0 h2 I2 f2 => ?_) (fun e0 h2 k I2 f2 => ?_)))
  · have hov2 := (f2.2 122 (by omega) (by omega)).trans hov
    first | with_reducible refine nd_i2lN hC (by omega) dX0_stack_7 ?_ | refine nd_i2l hC dX0_stack_7 ?_
    refine nd_lastoreN (j := 0) (n := 1) hC hov2 (by omega) (by omega) dX0_stack_8 ?_
    refine nd_goto hC (tgt := 21) dX0_stack_9 (by decide) ?_
    refine nd_iconst hC (v := nI 0) (by rfl) dX0_stack_21 ?_
    refine nd_ireturn hC rfl rfl (by omega) (by omega) dX0_stack_22 ?_
    have l2 : 122 < h2.length := by have := f2.1; omega
    have e1 : (op_stack x S).1 = 0 := e0
    suffices R : K (.inl (some (.int (nI (op_stack x S).1)))) _ by
      rw [e1] at R
      exact R
    exact hk _ _ I2.o122 (by rw [List.length_set]; exact f2.1) (fun a z1 z2 => (List.getElem?_set_ne (by omega)).trans (f2.2 a z1 (by omega))) (List.getElem?_set_self l2) (fun _ => rfl)
  · have e0 : (op_stack x S).1 ≠ 0 := e0
    have hov2 := (f2.2 122 (by omega) (by omega)).trans hov
    rcases (show (op_stack x S).1 = 1 ∨ (op_stack x S).1 = 2 ∨ (op_stack x S).1 = 3 by omega) with qq | qq | qq
    · have q : (op_stack x S).1 = 1 := by omega
      have R := hk h2 ov I2 f2.1 (fun a z1 z2 => f2.2 a z1 (by omega)) hov2 (fun y => absurd y e0)
      have R : K (.inl (some (.int (nI (op_stack x S).1)))) h2 := R
      rw [q] at R
      show nd_T _ _ _ _ _ _ _ _ _ (ex3 eNSE eISE eIAE (op_stack x S).1) _ _ _ _
      rw [q]
      refine nd_catch hC (E := "java/util/NoSuchElementException") "java/util/NoSuchElementException" [] (0, 9, 12, 19) [(0, 9, 15, 46), (0, 9, 18, 13)] rfl rfl (fun z hz => ?_) (by decide) (by decide) q1931 q1947 ?_
      · exact absurd hz (List.not_mem_nil)
      refine nd_astore_n hC dX0_stack_12 (Nat.le_of_ble_eq_true rfl) rfl ?_
      refine nd_iconst hC (v := nI 1) (by rfl) dX0_stack_13 ?_
      exact nd_ireturn hC rfl rfl (by omega) (by omega) dX0_stack_14 R
    · have q : (op_stack x S).1 = 2 := by omega
      have R := hk h2 ov I2 f2.1 (fun a z1 z2 => f2.2 a z1 (by omega)) hov2 (fun y => absurd y e0)
      have R : K (.inl (some (.int (nI (op_stack x S).1)))) h2 := R
      rw [q] at R
      show nd_T _ _ _ _ _ _ _ _ _ (ex3 eNSE eISE eIAE (op_stack x S).1) _ _ _ _
      rw [q]
      refine nd_catch hC (E := "java/lang/IllegalStateException") "java/lang/IllegalStateException" [(0, 9, 12, 19)] (0, 9, 15, 46) [(0, 9, 18, 13)] rfl rfl (fun z hz => ?_) (by decide) (by decide) q2020 q2030 ?_
      · have hz : z = ⟨0, 9, 12, 19⟩ := by simpa [tableOf] using hz
        rcases hz with hz
        · subst hz
          exact Or.inr ⟨by decide, "java/util/NoSuchElementException", q1931, nw_nc hC [false, false, true, true, false, true, false, true, true, true, true] rfl⟩
      refine nd_astore_n hC dX0_stack_15 (Nat.le_of_ble_eq_true rfl) rfl ?_
      refine nd_iconst hC (v := nI 2) (by rfl) dX0_stack_16 ?_
      exact nd_ireturn hC rfl rfl (by omega) (by omega) dX0_stack_17 R
    · have q : (op_stack x S).1 = 3 := by omega
      have R := hk h2 ov I2 f2.1 (fun a z1 z2 => f2.2 a z1 (by omega)) hov2 (fun y => absurd y e0)
      have R : K (.inl (some (.int (nI (op_stack x S).1)))) h2 := R
      rw [q] at R
      show nd_T _ _ _ _ _ _ _ _ _ (ex3 eNSE eISE eIAE (op_stack x S).1) _ _ _ _
      rw [q]
      refine nd_catch hC (E := "java/lang/IllegalArgumentException") "java/lang/IllegalArgumentException" [(0, 9, 12, 19), (0, 9, 15, 46)] (0, 9, 18, 13) [] rfl rfl (fun z hz => ?_) (by decide) (by decide) q1529 q1109 ?_
      · have hz : z = ⟨0, 9, 12, 19⟩ ∨ z = ⟨0, 9, 15, 46⟩ := by simpa [tableOf] using hz
        rcases hz with hz | hz
        · subst hz
          exact Or.inr ⟨by decide, "java/util/NoSuchElementException", q1931, nw_nc hC [false, false, true, true, false, false, true, true, true, true, false] rfl⟩
        · subst hz
          exact Or.inr ⟨by decide, "java/lang/IllegalStateException", q2020, nw_nc hC [false, false, true, true, true, false, true, true, false, false] rfl⟩
      refine nd_astore_n hC dX0_stack_18 (Nat.le_of_ble_eq_true rfl) rfl ?_
      refine nd_iconst hC (v := nI 3) (by rfl) dX0_stack_19 ?_
      exact nd_ireturn hC rfl rfl (by omega) (by omega) dX0_stack_20 R
theorem wb_made (x : Int32) (S : sy_S) : (op_made x S).1 ≤ 3 := by
  have := ty_f_le x S
  have := mk_f_le x S
  have := cr_f_le x S
  have := sk_f_le x S
  unfold op_made
  repeat' split
  all_goals first | exact Nat.zero_le _ | exact Nat.le_refl _ | (simp; done) | (simp; omega) | omega
theorem wx_made (hg : nd_OK g) (hd : 31 ≤ d) (x : Int32) : wp_ok g mX0_made d 12 80 [.ref 0, .int x, .ref 122] (mp_i (op_made x)) := by
  intro S h K ov hS hI hl hov hk
  obtain ⟨⟨x0, hO⟩, -⟩ : (∃ x, cx_O h (nI (sy_b S).length) (nI (sy_fk S)) (sy_fp S) x) ∧ True := by
    obtain ⟨-, o, nap, ds, gi, dss, hK⟩ := hI
    exact ⟨hK.1, trivial⟩
  unfold cx_O at hO
  have hbd := wb_made x S
  have hL0 : 122 < h.length := by omega
  refine nd_enterH _ hg (by decide) rfl (Nat.le_of_ble_eq_true rfl) (fun X hC => ?_)
  refine nd_aload_n hC dX0_made_0 rfl rfl ?_
  refine nd_iconst hC (v := nI 0) (by rfl) dX0_made_1 ?_
  refine nd_aload_n hC dX0_made_2 rfl rfl ?_
  refine nd_iload_n hC dX0_made_3 rfl ?_
  refine nd_callV (mm2 := mX1_made) (As := [_]) (mc2 := 12) (ms2 := 80) (d2 := d - 1) hC rfl lkX0_92 ⟨rfl, lmX1_made⟩ (hO) rfl (Nat.le_of_ble_eq_true rfl) (by omega) rfl (by exact Nat.le_of_ble_eq_true rfl) (by omega) (by omega) dX0_made_4 rfl ((cp_made hg (by omega) x S h _ hS hI hl (fun e0 h2 I2 f2 => ?_) (fun e0 h2 k I2 f2 => ?_)))
  · have hov2 := (f2.2 122 (by omega) (by omega)).trans hov
    first | with_reducible refine nd_i2lN hC (by omega) dX0_made_7 ?_ | refine nd_i2l hC dX0_made_7 ?_
    refine nd_lastoreN (j := 0) (n := 1) hC hov2 (by omega) (by omega) dX0_made_8 ?_
    refine nd_goto hC (tgt := 21) dX0_made_9 (by decide) ?_
    refine nd_iconst hC (v := nI 0) (by rfl) dX0_made_21 ?_
    refine nd_ireturn hC rfl rfl (by omega) (by omega) dX0_made_22 ?_
    have l2 : 122 < h2.length := by have := f2.1; omega
    have e1 : (op_made x S).1 = 0 := e0
    suffices R : K (.inl (some (.int (nI (op_made x S).1)))) _ by
      rw [e1] at R
      exact R
    exact hk _ _ I2.o122 (by rw [List.length_set]; exact f2.1) (fun a z1 z2 => (List.getElem?_set_ne (by omega)).trans (f2.2 a z1 (by omega))) (List.getElem?_set_self l2) (fun _ => rfl)
  · have e0 : (op_made x S).1 ≠ 0 := e0
    have hov2 := (f2.2 122 (by omega) (by omega)).trans hov
    rcases (show (op_made x S).1 = 1 ∨ (op_made x S).1 = 2 ∨ (op_made x S).1 = 3 by omega) with qq | qq | qq
    · have q : (op_made x S).1 = 1 := by omega
      have R := hk h2 ov I2 f2.1 (fun a z1 z2 => f2.2 a z1 (by omega)) hov2 (fun y => absurd y e0)
      have R : K (.inl (some (.int (nI (op_made x S).1)))) h2 := R
      rw [q] at R
      show nd_T _ _ _ _ _ _ _ _ _ (ex3 eNSE eISE eIAE (op_made x S).1) _ _ _ _
      rw [q]
      refine nd_catch hC (E := "java/util/NoSuchElementException") "java/util/NoSuchElementException" [] (0, 9, 12, 19) [(0, 9, 15, 46), (0, 9, 18, 13)] rfl rfl (fun z hz => ?_) (by decide) (by decide) q1931 q1947 ?_
      · exact absurd hz (List.not_mem_nil)
      refine nd_astore_n hC dX0_made_12 (Nat.le_of_ble_eq_true rfl) rfl ?_
      refine nd_iconst hC (v := nI 1) (by rfl) dX0_made_13 ?_
      exact nd_ireturn hC rfl rfl (by omega) (by omega) dX0_made_14 R
    · have q : (op_made x S).1 = 2 := by omega
      have R := hk h2 ov I2 f2.1 (fun a z1 z2 => f2.2 a z1 (by omega)) hov2 (fun y => absurd y e0)
      have R : K (.inl (some (.int (nI (op_made x S).1)))) h2 := R
      rw [q] at R
      show nd_T _ _ _ _ _ _ _ _ _ (ex3 eNSE eISE eIAE (op_made x S).1) _ _ _ _
      rw [q]
      refine nd_catch hC (E := "java/lang/IllegalStateException") "java/lang/IllegalStateException" [(0, 9, 12, 19)] (0, 9, 15, 46) [(0, 9, 18, 13)] rfl rfl (fun z hz => ?_) (by decide) (by decide) q2020 q2030 ?_
      · have hz : z = ⟨0, 9, 12, 19⟩ := by simpa [tableOf] using hz
        rcases hz with hz
        · subst hz
          exact Or.inr ⟨by decide, "java/util/NoSuchElementException", q1931, nw_nc hC [false, false, true, true, false, true, false, true, true, true, true] rfl⟩
      refine nd_astore_n hC dX0_made_15 (Nat.le_of_ble_eq_true rfl) rfl ?_
      refine nd_iconst hC (v := nI 2) (by rfl) dX0_made_16 ?_
      exact nd_ireturn hC rfl rfl (by omega) (by omega) dX0_made_17 R
    · have q : (op_made x S).1 = 3 := by omega
      have R := hk h2 ov I2 f2.1 (fun a z1 z2 => f2.2 a z1 (by omega)) hov2 (fun y => absurd y e0)
      have R : K (.inl (some (.int (nI (op_made x S).1)))) h2 := R
      rw [q] at R
      show nd_T _ _ _ _ _ _ _ _ _ (ex3 eNSE eISE eIAE (op_made x S).1) _ _ _ _
      rw [q]
      refine nd_catch hC (E := "java/lang/IllegalArgumentException") "java/lang/IllegalArgumentException" [(0, 9, 12, 19), (0, 9, 15, 46)] (0, 9, 18, 13) [] rfl rfl (fun z hz => ?_) (by decide) (by decide) q1529 q1109 ?_
      · have hz : z = ⟨0, 9, 12, 19⟩ ∨ z = ⟨0, 9, 15, 46⟩ := by simpa [tableOf] using hz
        rcases hz with hz | hz
        · subst hz
          exact Or.inr ⟨by decide, "java/util/NoSuchElementException", q1931, nw_nc hC [false, false, true, true, false, false, true, true, true, true, false] rfl⟩
        · subst hz
          exact Or.inr ⟨by decide, "java/lang/IllegalStateException", q2020, nw_nc hC [false, false, true, true, true, false, true, true, false, false] rfl⟩
      refine nd_astore_n hC dX0_made_18 (Nat.le_of_ble_eq_true rfl) rfl ?_
      refine nd_iconst hC (v := nI 3) (by rfl) dX0_made_19 ?_
      exact nd_ireturn hC rfl rfl (by omega) (by omega) dX0_made_20 R
theorem wb_madeBy (x y : Int32) (S : sy_S) : (op_madeBy x y S).1 ≤ 3 := by
  have := ty_f_le x S
  have := mk_f_le x S
  have := cr_f_le x S
  have := sk_f_le x S
  have := sn_f_le x y S
  have := jd_f_le x y S
  unfold op_madeBy
  repeat' split
  all_goals first | exact Nat.zero_le _ | exact Nat.le_refl _ | (simp; done) | (simp; omega) | omega
theorem wx_madeBy (hg : nd_OK g) (hd : 41 ≤ d) (x y : Int32) : wp_ok g mX0_madeBy d 12 80 [.ref 0, .int x, .int y, .ref 122] (mp_i (op_madeBy x y)) := by
  intro S h K ov hS hI hl hov hk
  obtain ⟨⟨x0, hO⟩, -⟩ : (∃ x, cx_O h (nI (sy_b S).length) (nI (sy_fk S)) (sy_fp S) x) ∧ True := by
    obtain ⟨-, o, nap, ds, gi, dss, hK⟩ := hI
    exact ⟨hK.1, trivial⟩
  unfold cx_O at hO
  have hbd := wb_madeBy x y S
  have hL0 : 122 < h.length := by omega
  refine nd_enterH _ hg (by decide) rfl (Nat.le_of_ble_eq_true rfl) (fun X hC => ?_)
  refine nd_aload_n hC dX0_madeBy_0 rfl rfl ?_
  refine nd_iconst hC (v := nI 0) (by rfl) dX0_madeBy_1 ?_
  refine nd_aload_n hC dX0_madeBy_2 rfl rfl ?_
  refine nd_iload_n hC dX0_madeBy_3 rfl ?_
  refine nd_iload_n hC dX0_madeBy_4 rfl ?_
  refine nd_callV (mm2 := mX1_madeBy) (As := [_, _]) (mc2 := 12) (ms2 := 80) (d2 := d - 1) hC rfl lkX0_95 ⟨rfl, lmX1_madeBy⟩ (hO) rfl (Nat.le_of_ble_eq_true rfl) (by omega) rfl (by exact Nat.le_of_ble_eq_true rfl) (by omega) (by omega) dX0_madeBy_5 rfl ((cp_madeBy hg (by omega) x y S h _ hS hI hl (fun e0 h2 I2 f2 => ?_) (fun e0 h2 k I2 f2 => ?_)))
  · have hov2 := (f2.2 122 (by omega) (by omega)).trans hov
    first | with_reducible refine nd_i2lN hC (by omega) dX0_madeBy_8 ?_ | refine nd_i2l hC dX0_madeBy_8 ?_
    refine nd_lastoreN (j := 0) (n := 1) hC hov2 (by omega) (by omega) dX0_madeBy_9 ?_
    refine nd_goto hC (tgt := 25) dX0_madeBy_10 (by decide) ?_
    refine nd_iconst hC (v := nI 0) (by rfl) dX0_madeBy_25 ?_
    refine nd_ireturn hC rfl rfl (by omega) (by omega) dX0_madeBy_26 ?_
    have l2 : 122 < h2.length := by have := f2.1; omega
    have e1 : (op_madeBy x y S).1 = 0 := e0
    suffices R : K (.inl (some (.int (nI (op_madeBy x y S).1)))) _ by
      rw [e1] at R
      exact R
    exact hk _ _ I2.o122 (by rw [List.length_set]; exact f2.1) (fun a z1 z2 => (List.getElem?_set_ne (by omega)).trans (f2.2 a z1 (by omega))) (List.getElem?_set_self l2) (fun _ => rfl)
  · have e0 : (op_madeBy x y S).1 ≠ 0 := e0
    have hov2 := (f2.2 122 (by omega) (by omega)).trans hov
    rcases (show (op_madeBy x y S).1 = 1 ∨ (op_madeBy x y S).1 = 2 ∨ (op_madeBy x y S).1 = 3 by omega) with qq | qq | qq
    · have q : (op_madeBy x y S).1 = 1 := by omega
      have R := hk h2 ov I2 f2.1 (fun a z1 z2 => f2.2 a z1 (by omega)) hov2 (fun y => absurd y e0)
      have R : K (.inl (some (.int (nI (op_madeBy x y S).1)))) h2 := R
      rw [q] at R
      show nd_T _ _ _ _ _ _ _ _ _ (ex3 eNSE eISE eIAE (op_madeBy x y S).1) _ _ _ _
      rw [q]
      refine nd_catch hC (E := "java/util/NoSuchElementException") "java/util/NoSuchElementException" [] (0, 10, 13, 19) [(0, 10, 17, 46), (0, 10, 21, 13)] rfl rfl (fun z hz => ?_) (by decide) (by decide) q1931 q1947 ?_
      · exact absurd hz (List.not_mem_nil)
      refine nd_astore hC dX0_madeBy_13 (Nat.le_of_ble_eq_true rfl) rfl ?_
      refine nd_iconst hC (v := nI 1) (by rfl) dX0_madeBy_15 ?_
      exact nd_ireturn hC rfl rfl (by omega) (by omega) dX0_madeBy_16 R
    · have q : (op_madeBy x y S).1 = 2 := by omega
      have R := hk h2 ov I2 f2.1 (fun a z1 z2 => f2.2 a z1 (by omega)) hov2 (fun y => absurd y e0)
      have R : K (.inl (some (.int (nI (op_madeBy x y S).1)))) h2 := R
      rw [q] at R
      show nd_T _ _ _ _ _ _ _ _ _ (ex3 eNSE eISE eIAE (op_madeBy x y S).1) _ _ _ _
      rw [q]
      refine nd_catch hC (E := "java/lang/IllegalStateException") "java/lang/IllegalStateException" [(0, 10, 13, 19)] (0, 10, 17, 46) [(0, 10, 21, 13)] rfl rfl (fun z hz => ?_) (by decide) (by decide) q2020 q2030 ?_
      · have hz : z = ⟨0, 10, 13, 19⟩ := by simpa [tableOf] using hz
        rcases hz with hz
        · subst hz
          exact Or.inr ⟨by decide, "java/util/NoSuchElementException", q1931, nw_nc hC [false, false, true, true, false, true, false, true, true, true, true] rfl⟩
      refine nd_astore hC dX0_madeBy_17 (Nat.le_of_ble_eq_true rfl) rfl ?_
      refine nd_iconst hC (v := nI 2) (by rfl) dX0_madeBy_19 ?_
      exact nd_ireturn hC rfl rfl (by omega) (by omega) dX0_madeBy_20 R
    · have q : (op_madeBy x y S).1 = 3 := by omega
      have R := hk h2 ov I2 f2.1 (fun a z1 z2 => f2.2 a z1 (by omega)) hov2 (fun y => absurd y e0)
      have R : K (.inl (some (.int (nI (op_madeBy x y S).1)))) h2 := R
      rw [q] at R
      show nd_T _ _ _ _ _ _ _ _ _ (ex3 eNSE eISE eIAE (op_madeBy x y S).1) _ _ _ _
      rw [q]
      refine nd_catch hC (E := "java/lang/IllegalArgumentException") "java/lang/IllegalArgumentException" [(0, 10, 13, 19), (0, 10, 17, 46)] (0, 10, 21, 13) [] rfl rfl (fun z hz => ?_) (by decide) (by decide) q1529 q1109 ?_
      · have hz : z = ⟨0, 10, 13, 19⟩ ∨ z = ⟨0, 10, 17, 46⟩ := by simpa [tableOf] using hz
        rcases hz with hz | hz
        · subst hz
          exact Or.inr ⟨by decide, "java/util/NoSuchElementException", q1931, nw_nc hC [false, false, true, true, false, false, true, true, true, true, false] rfl⟩
        · subst hz
          exact Or.inr ⟨by decide, "java/lang/IllegalStateException", q2020, nw_nc hC [false, false, true, true, true, false, true, true, false, false] rfl⟩
      refine nd_astore hC dX0_madeBy_21 (Nat.le_of_ble_eq_true rfl) rfl ?_
      refine nd_iconst hC (v := nI 3) (by rfl) dX0_madeBy_23 ?_
      exact nd_ireturn hC rfl rfl (by omega) (by omega) dX0_madeBy_24 R
theorem wb_fairest (x y : Int32) (S : sy_S) : (op_fairest x y S).1 ≤ 1 := by
  have := ty_f_le x S
  have := mk_f_le x S
  have := cr_f_le x S
  have := sk_f_le x S
  have := sn_f_le x y S
  have := jd_f_le x y S
  unfold op_fairest
  repeat' split
  all_goals try (unfold op_bestBy; repeat' split)
  all_goals first | exact Nat.zero_le _ | exact Nat.le_refl _ | (simp; done) | (simp; omega) | omega
theorem wx_fairest (hg : nd_OK g) (hd : 961 ≤ d) (x y : Int32) : wp_ok g mX0_fairest d 10 60 [.ref 0, .int x, .int y, .ref 122] (mp_i (op_fairest x y)) := by
  intro S h K ov hS hI hl hov hk
  obtain ⟨⟨x0, hO⟩, -⟩ : (∃ x, cx_O h (nI (sy_b S).length) (nI (sy_fk S)) (sy_fp S) x) ∧ True := by
    obtain ⟨-, o, nap, ds, gi, dss, hK⟩ := hI
    exact ⟨hK.1, trivial⟩
  unfold cx_O at hO
  have hbd := wb_fairest x y S
  have hL0 : 122 < h.length := by omega
  refine nd_enterH _ hg (by decide) rfl (Nat.le_of_ble_eq_true rfl) (fun X hC => ?_)
  refine nd_aload_n hC dX0_fairest_0 rfl rfl ?_
  refine nd_iconst hC (v := nI 0) (by rfl) dX0_fairest_1 ?_
  refine nd_aload_n hC dX0_fairest_2 rfl rfl ?_
  refine nd_iload_n hC dX0_fairest_3 rfl ?_
  refine nd_iload_n hC dX0_fairest_4 rfl ?_
  refine nd_callV (mm2 := mX1_fairest) (As := [_, _]) (mc2 := 10) (ms2 := 60) (d2 := d - 1) hC rfl lkX0_98 ⟨rfl, lmX1_fairest⟩ (hO) rfl (Nat.le_of_ble_eq_true rfl) (by omega) rfl (by exact Nat.le_of_ble_eq_true rfl) (by omega) (by omega) dX0_fairest_5 rfl ((cp_fairest hg (by omega) x y S h _ hS hI hl (fun e0 h2 I2 f2 => ?_) (fun e0 h2 k I2 f2 => ?_)))
  · have hov2 := (f2.2 122 (by omega) (by omega)).trans hov
    first | with_reducible refine nd_i2lN hC (by omega) dX0_fairest_8 ?_ | refine nd_i2l hC dX0_fairest_8 ?_
    refine nd_lastoreN (j := 0) (n := 1) hC hov2 (by omega) (by omega) dX0_fairest_9 ?_
    refine nd_goto hC (tgt := 17) dX0_fairest_10 (by decide) ?_
    refine nd_iconst hC (v := nI 0) (by rfl) dX0_fairest_17 ?_
    refine nd_ireturn hC rfl rfl (by omega) (by omega) dX0_fairest_18 ?_
    have l2 : 122 < h2.length := by have := f2.1; omega
    have e1 : (op_fairest x y S).1 = 0 := e0
    suffices R : K (.inl (some (.int (nI (op_fairest x y S).1)))) _ by
      rw [e1] at R
      exact R
    exact hk _ _ I2.o122 (by rw [List.length_set]; exact f2.1) (fun a z1 z2 => (List.getElem?_set_ne (by omega)).trans (f2.2 a z1 (by omega))) (List.getElem?_set_self l2) (fun _ => rfl)
  · have e0 : (op_fairest x y S).1 ≠ 0 := e0
    have hov2 := (f2.2 122 (by omega) (by omega)).trans hov
    have q : (op_fairest x y S).1 = 1 := by omega
    have R := hk h2 ov I2 f2.1 (fun a z1 z2 => f2.2 a z1 (by omega)) hov2 (fun y => absurd y e0)
    have R : K (.inl (some (.int (nI (op_fairest x y S).1)))) h2 := R
    rw [q] at R
    show nd_T _ _ _ _ _ _ _ _ _ (ex1 eIAE (op_fairest x y S).1) _ _ _ _
    rw [q]
    refine nd_catch hC (E := "java/lang/IllegalArgumentException") "java/lang/IllegalArgumentException" [] (0, 10, 13, 13) [] rfl rfl (fun z hz => ?_) (by decide) (by decide) q1529 q1109 ?_
    · exact absurd hz (List.not_mem_nil)
    refine nd_astore hC dX0_fairest_13 (Nat.le_of_ble_eq_true rfl) rfl ?_
    refine nd_iconst hC (v := nI 1) (by rfl) dX0_fairest_15 ?_
    exact nd_ireturn hC rfl rfl (by omega) (by omega) dX0_fairest_16 R
theorem wb_better (x : Int32) (S : sy_S) : (op_better x S).1 ≤ 1 := by
  have := ty_f_le x S
  have := mk_f_le x S
  have := cr_f_le x S
  have := sk_f_le x S
  unfold op_better
  repeat' split
  all_goals try (unfold op_many; repeat' split)
  all_goals first | exact Nat.zero_le _ | exact Nat.le_refl _ | (simp; done) | (simp; omega) | omega
theorem wx_better (hg : nd_OK g) (hd : 961 ≤ d) (x : Int32) : wp_ok g mX0_better d 1220 80060 [.ref 0, .int x, .ref 122] (mp_i (op_better x)) := by
  intro S h K ov hS hI hl hov hk
  obtain ⟨⟨x0, hO⟩, -⟩ : (∃ x, cx_O h (nI (sy_b S).length) (nI (sy_fk S)) (sy_fp S) x) ∧ True := by
    obtain ⟨-, o, nap, ds, gi, dss, hK⟩ := hI
    exact ⟨hK.1, trivial⟩
  unfold cx_O at hO
  have hbd := wb_better x S
  have hL0 : 122 < h.length := by omega
  refine nd_enterH _ hg (by decide) rfl (Nat.le_of_ble_eq_true rfl) (fun X hC => ?_)
  refine nd_aload_n hC dX0_better_0 rfl rfl ?_
  refine nd_iconst hC (v := nI 0) (by rfl) dX0_better_1 ?_
  refine nd_aload_n hC dX0_better_2 rfl rfl ?_
  refine nd_iload_n hC dX0_better_3 rfl ?_
  refine nd_callV (mm2 := mX1_better) (As := [_]) (mc2 := 1220) (ms2 := 80060) (d2 := d - 1) hC rfl lkX0_101 ⟨rfl, lmX1_better⟩ (hO) rfl (Nat.le_of_ble_eq_true rfl) (by omega) rfl (by exact Nat.le_of_ble_eq_true rfl) (by omega) (by omega) dX0_better_4 rfl ((cp_better hg (by omega) x S h _ hS hI hl (fun e0 h2 I2 f2 => ?_) (fun e0 h2 k I2 f2 => ?_)))
  · have hov2 := (f2.2 122 (by omega) (by omega)).trans hov
    first | with_reducible refine nd_i2lN hC (by omega) dX0_better_7 ?_ | refine nd_i2l hC dX0_better_7 ?_
    refine nd_lastoreN (j := 0) (n := 1) hC hov2 (by omega) (by omega) dX0_better_8 ?_
    refine nd_goto hC (tgt := 15) dX0_better_9 (by decide) ?_
    refine nd_iconst hC (v := nI 0) (by rfl) dX0_better_15 ?_
    refine nd_ireturn hC rfl rfl (by omega) (by omega) dX0_better_16 ?_
    have l2 : 122 < h2.length := by have := f2.1; omega
    have e1 : (op_better x S).1 = 0 := e0
    suffices R : K (.inl (some (.int (nI (op_better x S).1)))) _ by
      rw [e1] at R
      exact R
    exact hk _ _ I2.o122 (by rw [List.length_set]; exact f2.1) (fun a z1 z2 => (List.getElem?_set_ne (by omega)).trans (f2.2 a z1 (by omega))) (List.getElem?_set_self l2) (fun _ => rfl)
  · have e0 : (op_better x S).1 ≠ 0 := e0
    have hov2 := (f2.2 122 (by omega) (by omega)).trans hov
    have q : (op_better x S).1 = 1 := by omega
    have R := hk h2 ov I2 f2.1 (fun a z1 z2 => f2.2 a z1 (by omega)) hov2 (fun y => absurd y e0)
    have R : K (.inl (some (.int (nI (op_better x S).1)))) h2 := R
    rw [q] at R
    show nd_T _ _ _ _ _ _ _ _ _ (ex1 eIAE (op_better x S).1) _ _ _ _
    rw [q]
    refine nd_catch hC (E := "java/lang/IllegalArgumentException") "java/lang/IllegalArgumentException" [] (0, 9, 12, 13) [] rfl rfl (fun z hz => ?_) (by decide) (by decide) q1529 q1109 ?_
    · exact absurd hz (List.not_mem_nil)
    refine nd_astore_n hC dX0_better_12 (Nat.le_of_ble_eq_true rfl) rfl ?_
    refine nd_iconst hC (v := nI 1) (by rfl) dX0_better_13 ?_
    exact nd_ireturn hC rfl rfl (by omega) (by omega) dX0_better_14 R
theorem wb_keenest (x : Int32) (S : sy_S) : (op_keenest x S).1 ≤ 1 := by
  have := ty_f_le x S
  have := mk_f_le x S
  have := cr_f_le x S
  have := sk_f_le x S
  unfold op_keenest
  repeat' split
  all_goals first | exact Nat.zero_le _ | exact Nat.le_refl _ | (simp; done) | (simp; omega) | omega
theorem wx_keenest (hg : nd_OK g) (hd : 981 ≤ d) (x : Int32) : wp_ok g mX0_keenest d 40 120 [.ref 0, .int x, .ref 122] (mp_i (op_keenest x)) := by
  intro S h K ov hS hI hl hov hk
  obtain ⟨⟨x0, hO⟩, -⟩ : (∃ x, cx_O h (nI (sy_b S).length) (nI (sy_fk S)) (sy_fp S) x) ∧ True := by
    obtain ⟨-, o, nap, ds, gi, dss, hK⟩ := hI
    exact ⟨hK.1, trivial⟩
  unfold cx_O at hO
  have hbd := wb_keenest x S
  have hL0 : 122 < h.length := by omega
  refine nd_enterH _ hg (by decide) rfl (Nat.le_of_ble_eq_true rfl) (fun X hC => ?_)
  refine nd_aload_n hC dX0_keenest_0 rfl rfl ?_
  refine nd_iconst hC (v := nI 0) (by rfl) dX0_keenest_1 ?_
  refine nd_aload_n hC dX0_keenest_2 rfl rfl ?_
  refine nd_iload_n hC dX0_keenest_3 rfl ?_
  refine nd_callV (mm2 := mX1_keenest) (As := [_]) (mc2 := 40) (ms2 := 120) (d2 := d - 1) hC rfl lkX0_104 ⟨rfl, lmX1_keenest⟩ (hO) rfl (Nat.le_of_ble_eq_true rfl) (by omega) rfl (by exact Nat.le_of_ble_eq_true rfl) (by omega) (by omega) dX0_keenest_4 rfl ((cp_keenest hg (by omega) x S h _ hS hI hl (fun e0 h2 I2 f2 => ?_) (fun e0 h2 k I2 f2 => ?_)))
  · have hov2 := (f2.2 122 (by omega) (by omega)).trans hov
    first | with_reducible refine nd_i2lN hC (by omega) dX0_keenest_7 ?_ | refine nd_i2l hC dX0_keenest_7 ?_
    refine nd_lastoreN (j := 0) (n := 1) hC hov2 (by omega) (by omega) dX0_keenest_8 ?_
    refine nd_goto hC (tgt := 15) dX0_keenest_9 (by decide) ?_
    refine nd_iconst hC (v := nI 0) (by rfl) dX0_keenest_15 ?_
    refine nd_ireturn hC rfl rfl (by omega) (by omega) dX0_keenest_16 ?_
    have l2 : 122 < h2.length := by have := f2.1; omega
    have e1 : (op_keenest x S).1 = 0 := e0
    suffices R : K (.inl (some (.int (nI (op_keenest x S).1)))) _ by
      rw [e1] at R
      exact R
    exact hk _ _ I2.o122 (by rw [List.length_set]; exact f2.1) (fun a z1 z2 => (List.getElem?_set_ne (by omega)).trans (f2.2 a z1 (by omega))) (List.getElem?_set_self l2) (fun _ => rfl)
  · have e0 : (op_keenest x S).1 ≠ 0 := e0
    have hov2 := (f2.2 122 (by omega) (by omega)).trans hov
    have q : (op_keenest x S).1 = 1 := by omega
    have R := hk h2 ov I2 f2.1 (fun a z1 z2 => f2.2 a z1 (by omega)) hov2 (fun y => absurd y e0)
    have R : K (.inl (some (.int (nI (op_keenest x S).1)))) h2 := R
    rw [q] at R
    show nd_T _ _ _ _ _ _ _ _ _ (ex1 eIAE (op_keenest x S).1) _ _ _ _
    rw [q]
    refine nd_catch hC (E := "java/lang/IllegalArgumentException") "java/lang/IllegalArgumentException" [] (0, 9, 12, 13) [] rfl rfl (fun z hz => ?_) (by decide) (by decide) q1529 q1109 ?_
    · exact absurd hz (List.not_mem_nil)
    refine nd_astore_n hC dX0_keenest_12 (Nat.le_of_ble_eq_true rfl) rfl ?_
    refine nd_iconst hC (v := nI 1) (by rfl) dX0_keenest_13 ?_
    exact nd_ireturn hC rfl rfl (by omega) (by omega) dX0_keenest_14 R
theorem wb_seen (x y : Int32) (S : sy_S) : (op_seen x y S).1 ≤ 3 := by
  have := ty_f_le x S
  have := mk_f_le x S
  have := cr_f_le x S
  have := sk_f_le x S
  have := sn_f_le x y S
  have := jd_f_le x y S
  unfold op_seen
  repeat' split
  all_goals first | exact Nat.zero_le _ | exact Nat.le_refl _ | (simp; done) | (simp; omega) | omega
theorem wx_seen (hg : nd_OK g) (hd : 31 ≤ d) (x y : Int32) : wp_ok g mX0_seen d 16 670 [.ref 0, .int x, .int y, .ref 122] (mp_i (op_seen x y)) := by
  intro S h K ov hS hI hl hov hk
  obtain ⟨⟨x0, hO⟩, -⟩ : (∃ x, cx_O h (nI (sy_b S).length) (nI (sy_fk S)) (sy_fp S) x) ∧ True := by
    obtain ⟨-, o, nap, ds, gi, dss, hK⟩ := hI
    exact ⟨hK.1, trivial⟩
  unfold cx_O at hO
  have hbd := wb_seen x y S
  have hL0 : 122 < h.length := by omega
  refine nd_enterH _ hg (by decide) rfl (Nat.le_of_ble_eq_true rfl) (fun X hC => ?_)
  refine nd_aload_n hC dX0_seen_0 rfl rfl ?_
  refine nd_iconst hC (v := nI 0) (by rfl) dX0_seen_1 ?_
  refine nd_aload_n hC dX0_seen_2 rfl rfl ?_
  refine nd_iload_n hC dX0_seen_3 rfl ?_
  refine nd_iload_n hC dX0_seen_4 rfl ?_
  refine nd_callV (mm2 := mX1_seen) (As := [_, _]) (mc2 := 16) (ms2 := 670) (d2 := d - 1) hC rfl lkX0_107 ⟨rfl, lmX1_seen⟩ (hO) rfl (Nat.le_of_ble_eq_true rfl) (by omega) rfl (by exact Nat.le_of_ble_eq_true rfl) (by omega) (by omega) dX0_seen_5 rfl ((cp_seen hg (by omega) x y S h _ hS hI hl (fun e0 h2 I2 f2 => ?_) (fun e0 h2 k I2 f2 => ?_)))
  · have hov2 := (f2.2 122 (by omega) (by omega)).trans hov
    first | with_reducible refine nd_i2lN hC (by omega) dX0_seen_8 ?_ | refine nd_i2l hC dX0_seen_8 ?_
    refine nd_lastoreN (j := 0) (n := 1) hC hov2 (by omega) (by omega) dX0_seen_9 ?_
    refine nd_goto hC (tgt := 25) dX0_seen_10 (by decide) ?_
    refine nd_iconst hC (v := nI 0) (by rfl) dX0_seen_25 ?_
    refine nd_ireturn hC rfl rfl (by omega) (by omega) dX0_seen_26 ?_
    have l2 : 122 < h2.length := by have := f2.1; omega
    have e1 : (op_seen x y S).1 = 0 := e0
    suffices R : K (.inl (some (.int (nI (op_seen x y S).1)))) _ by
      rw [e1] at R
      exact R
    exact hk _ _ I2.o122 (by rw [List.length_set]; exact f2.1) (fun a z1 z2 => (List.getElem?_set_ne (by omega)).trans (f2.2 a z1 (by omega))) (List.getElem?_set_self l2) (fun _ => rfl)
  · have e0 : (op_seen x y S).1 ≠ 0 := e0
    have hov2 := (f2.2 122 (by omega) (by omega)).trans hov
    rcases (show (op_seen x y S).1 = 1 ∨ (op_seen x y S).1 = 2 ∨ (op_seen x y S).1 = 3 by omega) with qq | qq | qq
    · have q : (op_seen x y S).1 = 1 := by omega
      have R := hk h2 ov I2 f2.1 (fun a z1 z2 => f2.2 a z1 (by omega)) hov2 (fun y => absurd y e0)
      have R : K (.inl (some (.int (nI (op_seen x y S).1)))) h2 := R
      rw [q] at R
      show nd_T _ _ _ _ _ _ _ _ _ (ex3 eNSE eISE eIAE (op_seen x y S).1) _ _ _ _
      rw [q]
      refine nd_catch hC (E := "java/util/NoSuchElementException") "java/util/NoSuchElementException" [] (0, 10, 13, 19) [(0, 10, 17, 46), (0, 10, 21, 13)] rfl rfl (fun z hz => ?_) (by decide) (by decide) q1931 q1947 ?_
      · exact absurd hz (List.not_mem_nil)
      refine nd_astore hC dX0_seen_13 (Nat.le_of_ble_eq_true rfl) rfl ?_
      refine nd_iconst hC (v := nI 1) (by rfl) dX0_seen_15 ?_
      exact nd_ireturn hC rfl rfl (by omega) (by omega) dX0_seen_16 R
    · have q : (op_seen x y S).1 = 2 := by omega
      have R := hk h2 ov I2 f2.1 (fun a z1 z2 => f2.2 a z1 (by omega)) hov2 (fun y => absurd y e0)
      have R : K (.inl (some (.int (nI (op_seen x y S).1)))) h2 := R
      rw [q] at R
      show nd_T _ _ _ _ _ _ _ _ _ (ex3 eNSE eISE eIAE (op_seen x y S).1) _ _ _ _
      rw [q]
      refine nd_catch hC (E := "java/lang/IllegalStateException") "java/lang/IllegalStateException" [(0, 10, 13, 19)] (0, 10, 17, 46) [(0, 10, 21, 13)] rfl rfl (fun z hz => ?_) (by decide) (by decide) q2020 q2030 ?_
      · have hz : z = ⟨0, 10, 13, 19⟩ := by simpa [tableOf] using hz
        rcases hz with hz
        · subst hz
          exact Or.inr ⟨by decide, "java/util/NoSuchElementException", q1931, nw_nc hC [false, false, true, true, false, true, false, true, true, true, true] rfl⟩
      refine nd_astore hC dX0_seen_17 (Nat.le_of_ble_eq_true rfl) rfl ?_
      refine nd_iconst hC (v := nI 2) (by rfl) dX0_seen_19 ?_
      exact nd_ireturn hC rfl rfl (by omega) (by omega) dX0_seen_20 R
    · have q : (op_seen x y S).1 = 3 := by omega
      have R := hk h2 ov I2 f2.1 (fun a z1 z2 => f2.2 a z1 (by omega)) hov2 (fun y => absurd y e0)
      have R : K (.inl (some (.int (nI (op_seen x y S).1)))) h2 := R
      rw [q] at R
      show nd_T _ _ _ _ _ _ _ _ _ (ex3 eNSE eISE eIAE (op_seen x y S).1) _ _ _ _
      rw [q]
      refine nd_catch hC (E := "java/lang/IllegalArgumentException") "java/lang/IllegalArgumentException" [(0, 10, 13, 19), (0, 10, 17, 46)] (0, 10, 21, 13) [] rfl rfl (fun z hz => ?_) (by decide) (by decide) q1529 q1109 ?_
      · have hz : z = ⟨0, 10, 13, 19⟩ ∨ z = ⟨0, 10, 17, 46⟩ := by simpa [tableOf] using hz
        rcases hz with hz | hz
        · subst hz
          exact Or.inr ⟨by decide, "java/util/NoSuchElementException", q1931, nw_nc hC [false, false, true, true, false, false, true, true, true, true, false] rfl⟩
        · subst hz
          exact Or.inr ⟨by decide, "java/lang/IllegalStateException", q2020, nw_nc hC [false, false, true, true, true, false, true, true, false, false] rfl⟩
      refine nd_astore hC dX0_seen_21 (Nat.le_of_ble_eq_true rfl) rfl ?_
      refine nd_iconst hC (v := nI 3) (by rfl) dX0_seen_23 ?_
      exact nd_ireturn hC rfl rfl (by omega) (by omega) dX0_seen_24 R
theorem wb_sure (x y : Int32) (S : sy_S) : (op_sure x y S).1 ≤ 3 := by
  have := ty_f_le x S
  have := mk_f_le x S
  have := cr_f_le x S
  have := sk_f_le x S
  have := sn_f_le x y S
  have := jd_f_le x y S
  unfold op_sure
  repeat' split
  all_goals first | exact Nat.zero_le _ | exact Nat.le_refl _ | (simp; done) | (simp; omega) | omega
theorem wx_sure (hg : nd_OK g) (hd : 31 ≤ d) (x y : Int32) : wp_ok g mX0_sure d 16 670 [.ref 0, .int x, .int y, .ref 122] (mp_i (op_sure x y)) := by
  intro S h K ov hS hI hl hov hk
  obtain ⟨⟨x0, hO⟩, -⟩ : (∃ x, cx_O h (nI (sy_b S).length) (nI (sy_fk S)) (sy_fp S) x) ∧ True := by
    obtain ⟨-, o, nap, ds, gi, dss, hK⟩ := hI
    exact ⟨hK.1, trivial⟩
  unfold cx_O at hO
  have hbd := wb_sure x y S
  have hL0 : 122 < h.length := by omega
  refine nd_enterH _ hg (by decide) rfl (Nat.le_of_ble_eq_true rfl) (fun X hC => ?_)
  refine nd_aload_n hC dX0_sure_0 rfl rfl ?_
  refine nd_iconst hC (v := nI 0) (by rfl) dX0_sure_1 ?_
  refine nd_aload_n hC dX0_sure_2 rfl rfl ?_
  refine nd_iload_n hC dX0_sure_3 rfl ?_
  refine nd_iload_n hC dX0_sure_4 rfl ?_
  refine nd_callV (mm2 := mX1_sure) (As := [_, _]) (mc2 := 16) (ms2 := 670) (d2 := d - 1) hC rfl lkX0_110 ⟨rfl, lmX1_sure⟩ (hO) rfl (Nat.le_of_ble_eq_true rfl) (by omega) rfl (by exact Nat.le_of_ble_eq_true rfl) (by omega) (by omega) dX0_sure_5 rfl ((cp_sure hg (by omega) x y S h _ hS hI hl (fun e0 h2 I2 f2 => ?_) (fun e0 h2 k I2 f2 => ?_)))
  · have hov2 := (f2.2 122 (by omega) (by omega)).trans hov
    first | with_reducible refine nd_i2lN hC (by omega) dX0_sure_8 ?_ | refine nd_i2l hC dX0_sure_8 ?_
    refine nd_lastoreN (j := 0) (n := 1) hC hov2 (by omega) (by omega) dX0_sure_9 ?_
    refine nd_goto hC (tgt := 25) dX0_sure_10 (by decide) ?_
    refine nd_iconst hC (v := nI 0) (by rfl) dX0_sure_25 ?_
    refine nd_ireturn hC rfl rfl (by omega) (by omega) dX0_sure_26 ?_
    have l2 : 122 < h2.length := by have := f2.1; omega
    have e1 : (op_sure x y S).1 = 0 := e0
    suffices R : K (.inl (some (.int (nI (op_sure x y S).1)))) _ by
      rw [e1] at R
      exact R
    exact hk _ _ I2.o122 (by rw [List.length_set]; exact f2.1) (fun a z1 z2 => (List.getElem?_set_ne (by omega)).trans (f2.2 a z1 (by omega))) (List.getElem?_set_self l2) (fun _ => rfl)
  · have e0 : (op_sure x y S).1 ≠ 0 := e0
    have hov2 := (f2.2 122 (by omega) (by omega)).trans hov
    rcases (show (op_sure x y S).1 = 1 ∨ (op_sure x y S).1 = 2 ∨ (op_sure x y S).1 = 3 by omega) with qq | qq | qq
    · have q : (op_sure x y S).1 = 1 := by omega
      have R := hk h2 ov I2 f2.1 (fun a z1 z2 => f2.2 a z1 (by omega)) hov2 (fun y => absurd y e0)
      have R : K (.inl (some (.int (nI (op_sure x y S).1)))) h2 := R
      rw [q] at R
      show nd_T _ _ _ _ _ _ _ _ _ (ex3 eNSE eISE eIAE (op_sure x y S).1) _ _ _ _
      rw [q]
      refine nd_catch hC (E := "java/util/NoSuchElementException") "java/util/NoSuchElementException" [] (0, 10, 13, 19) [(0, 10, 17, 46), (0, 10, 21, 13)] rfl rfl (fun z hz => ?_) (by decide) (by decide) q1931 q1947 ?_
      · exact absurd hz (List.not_mem_nil)
      refine nd_astore hC dX0_sure_13 (Nat.le_of_ble_eq_true rfl) rfl ?_
      refine nd_iconst hC (v := nI 1) (by rfl) dX0_sure_15 ?_
      exact nd_ireturn hC rfl rfl (by omega) (by omega) dX0_sure_16 R
    · have q : (op_sure x y S).1 = 2 := by omega
      have R := hk h2 ov I2 f2.1 (fun a z1 z2 => f2.2 a z1 (by omega)) hov2 (fun y => absurd y e0)
      have R : K (.inl (some (.int (nI (op_sure x y S).1)))) h2 := R
      rw [q] at R
      show nd_T _ _ _ _ _ _ _ _ _ (ex3 eNSE eISE eIAE (op_sure x y S).1) _ _ _ _
      rw [q]
      refine nd_catch hC (E := "java/lang/IllegalStateException") "java/lang/IllegalStateException" [(0, 10, 13, 19)] (0, 10, 17, 46) [(0, 10, 21, 13)] rfl rfl (fun z hz => ?_) (by decide) (by decide) q2020 q2030 ?_
      · have hz : z = ⟨0, 10, 13, 19⟩ := by simpa [tableOf] using hz
        rcases hz with hz
        · subst hz
          exact Or.inr ⟨by decide, "java/util/NoSuchElementException", q1931, nw_nc hC [false, false, true, true, false, true, false, true, true, true, true] rfl⟩
      refine nd_astore hC dX0_sure_17 (Nat.le_of_ble_eq_true rfl) rfl ?_
      refine nd_iconst hC (v := nI 2) (by rfl) dX0_sure_19 ?_
      exact nd_ireturn hC rfl rfl (by omega) (by omega) dX0_sure_20 R
    · have q : (op_sure x y S).1 = 3 := by omega
      have R := hk h2 ov I2 f2.1 (fun a z1 z2 => f2.2 a z1 (by omega)) hov2 (fun y => absurd y e0)
      have R : K (.inl (some (.int (nI (op_sure x y S).1)))) h2 := R
      rw [q] at R
      show nd_T _ _ _ _ _ _ _ _ _ (ex3 eNSE eISE eIAE (op_sure x y S).1) _ _ _ _
      rw [q]
      refine nd_catch hC (E := "java/lang/IllegalArgumentException") "java/lang/IllegalArgumentException" [(0, 10, 13, 19), (0, 10, 17, 46)] (0, 10, 21, 13) [] rfl rfl (fun z hz => ?_) (by decide) (by decide) q1529 q1109 ?_
      · have hz : z = ⟨0, 10, 13, 19⟩ ∨ z = ⟨0, 10, 17, 46⟩ := by simpa [tableOf] using hz
        rcases hz with hz | hz
        · subst hz
          exact Or.inr ⟨by decide, "java/util/NoSuchElementException", q1931, nw_nc hC [false, false, true, true, false, false, true, true, true, true, false] rfl⟩
        · subst hz
          exact Or.inr ⟨by decide, "java/lang/IllegalStateException", q2020, nw_nc hC [false, false, true, true, true, false, true, true, false, false] rfl⟩
      refine nd_astore hC dX0_sure_21 (Nat.le_of_ble_eq_true rfl) rfl ?_
      refine nd_iconst hC (v := nI 3) (by rfl) dX0_sure_23 ?_
      exact nd_ireturn hC rfl rfl (by omega) (by omega) dX0_sure_24 R
theorem wb_look (x y : Int32) (S : sy_S) : (op_look x y S).1 ≤ 3 := by
  have := ty_f_le x S
  have := mk_f_le x S
  have := cr_f_le x S
  have := sk_f_le x S
  have := sn_f_le x y S
  have := jd_f_le x y S
  unfold op_look
  repeat' split
  all_goals first | exact Nat.zero_le _ | exact Nat.le_refl _ | (simp; done) | (simp; omega) | omega
theorem wx_look (hg : nd_OK g) (hd : 31 ≤ d) (x y : Int32) : wp_ok g mX0_look d 16 670 [.ref 0, .int x, .int y, .ref 122] (mp_i (op_look x y)) := by
  intro S h K ov hS hI hl hov hk
  obtain ⟨⟨x0, hO⟩, -⟩ : (∃ x, cx_O h (nI (sy_b S).length) (nI (sy_fk S)) (sy_fp S) x) ∧ True := by
    obtain ⟨-, o, nap, ds, gi, dss, hK⟩ := hI
    exact ⟨hK.1, trivial⟩
  unfold cx_O at hO
  have hbd := wb_look x y S
  have hL0 : 122 < h.length := by omega
  refine nd_enterH _ hg (by decide) rfl (Nat.le_of_ble_eq_true rfl) (fun X hC => ?_)
  refine nd_aload_n hC dX0_look_0 rfl rfl ?_
  refine nd_iconst hC (v := nI 0) (by rfl) dX0_look_1 ?_
  refine nd_aload_n hC dX0_look_2 rfl rfl ?_
  refine nd_iload_n hC dX0_look_3 rfl ?_
  refine nd_iload_n hC dX0_look_4 rfl ?_
  refine nd_callV (mm2 := mX1_look) (As := [_, _]) (mc2 := 16) (ms2 := 670) (d2 := d - 1) hC rfl lkX0_113 ⟨rfl, lmX1_look⟩ (hO) rfl (Nat.le_of_ble_eq_true rfl) (by omega) rfl (by exact Nat.le_of_ble_eq_true rfl) (by omega) (by omega) dX0_look_5 rfl ((cp_look hg (by omega) x y S h _ hS hI hl (fun e0 h2 I2 f2 => ?_) (fun e0 h2 k I2 f2 => ?_)))
  · have hov2 := (f2.2 122 (by omega) (by omega)).trans hov
    first | with_reducible refine nd_i2lN hC (by omega) dX0_look_8 ?_ | refine nd_i2l hC dX0_look_8 ?_
    refine nd_lastoreN (j := 0) (n := 1) hC hov2 (by omega) (by omega) dX0_look_9 ?_
    refine nd_goto hC (tgt := 25) dX0_look_10 (by decide) ?_
    refine nd_iconst hC (v := nI 0) (by rfl) dX0_look_25 ?_
    refine nd_ireturn hC rfl rfl (by omega) (by omega) dX0_look_26 ?_
    have l2 : 122 < h2.length := by have := f2.1; omega
    have e1 : (op_look x y S).1 = 0 := e0
    suffices R : K (.inl (some (.int (nI (op_look x y S).1)))) _ by
      rw [e1] at R
      exact R
    exact hk _ _ I2.o122 (by rw [List.length_set]; exact f2.1) (fun a z1 z2 => (List.getElem?_set_ne (by omega)).trans (f2.2 a z1 (by omega))) (List.getElem?_set_self l2) (fun _ => rfl)
  · have e0 : (op_look x y S).1 ≠ 0 := e0
    have hov2 := (f2.2 122 (by omega) (by omega)).trans hov
    rcases (show (op_look x y S).1 = 1 ∨ (op_look x y S).1 = 2 ∨ (op_look x y S).1 = 3 by omega) with qq | qq | qq
    · have q : (op_look x y S).1 = 1 := by omega
      have R := hk h2 ov I2 f2.1 (fun a z1 z2 => f2.2 a z1 (by omega)) hov2 (fun y => absurd y e0)
      have R : K (.inl (some (.int (nI (op_look x y S).1)))) h2 := R
      rw [q] at R
      show nd_T _ _ _ _ _ _ _ _ _ (ex3 eNSE eISE eIAE (op_look x y S).1) _ _ _ _
      rw [q]
      refine nd_catch hC (E := "java/util/NoSuchElementException") "java/util/NoSuchElementException" [] (0, 10, 13, 19) [(0, 10, 17, 46), (0, 10, 21, 13)] rfl rfl (fun z hz => ?_) (by decide) (by decide) q1931 q1947 ?_
      · exact absurd hz (List.not_mem_nil)
      refine nd_astore hC dX0_look_13 (Nat.le_of_ble_eq_true rfl) rfl ?_
      refine nd_iconst hC (v := nI 1) (by rfl) dX0_look_15 ?_
      exact nd_ireturn hC rfl rfl (by omega) (by omega) dX0_look_16 R
    · have q : (op_look x y S).1 = 2 := by omega
      have R := hk h2 ov I2 f2.1 (fun a z1 z2 => f2.2 a z1 (by omega)) hov2 (fun y => absurd y e0)
      have R : K (.inl (some (.int (nI (op_look x y S).1)))) h2 := R
      rw [q] at R
      show nd_T _ _ _ _ _ _ _ _ _ (ex3 eNSE eISE eIAE (op_look x y S).1) _ _ _ _
      rw [q]
      refine nd_catch hC (E := "java/lang/IllegalStateException") "java/lang/IllegalStateException" [(0, 10, 13, 19)] (0, 10, 17, 46) [(0, 10, 21, 13)] rfl rfl (fun z hz => ?_) (by decide) (by decide) q2020 q2030 ?_
      · have hz : z = ⟨0, 10, 13, 19⟩ := by simpa [tableOf] using hz
        rcases hz with hz
        · subst hz
          exact Or.inr ⟨by decide, "java/util/NoSuchElementException", q1931, nw_nc hC [false, false, true, true, false, true, false, true, true, true, true] rfl⟩
      refine nd_astore hC dX0_look_17 (Nat.le_of_ble_eq_true rfl) rfl ?_
      refine nd_iconst hC (v := nI 2) (by rfl) dX0_look_19 ?_
      exact nd_ireturn hC rfl rfl (by omega) (by omega) dX0_look_20 R
    · have q : (op_look x y S).1 = 3 := by omega
      have R := hk h2 ov I2 f2.1 (fun a z1 z2 => f2.2 a z1 (by omega)) hov2 (fun y => absurd y e0)
      have R : K (.inl (some (.int (nI (op_look x y S).1)))) h2 := R
      rw [q] at R
      show nd_T _ _ _ _ _ _ _ _ _ (ex3 eNSE eISE eIAE (op_look x y S).1) _ _ _ _
      rw [q]
      refine nd_catch hC (E := "java/lang/IllegalArgumentException") "java/lang/IllegalArgumentException" [(0, 10, 13, 19), (0, 10, 17, 46)] (0, 10, 21, 13) [] rfl rfl (fun z hz => ?_) (by decide) (by decide) q1529 q1109 ?_
      · have hz : z = ⟨0, 10, 13, 19⟩ ∨ z = ⟨0, 10, 17, 46⟩ := by simpa [tableOf] using hz
        rcases hz with hz | hz
        · subst hz
          exact Or.inr ⟨by decide, "java/util/NoSuchElementException", q1931, nw_nc hC [false, false, true, true, false, false, true, true, true, true, false] rfl⟩
        · subst hz
          exact Or.inr ⟨by decide, "java/lang/IllegalStateException", q2020, nw_nc hC [false, false, true, true, true, false, true, true, false, false] rfl⟩
      refine nd_astore hC dX0_look_21 (Nat.le_of_ble_eq_true rfl) rfl ?_
      refine nd_iconst hC (v := nI 3) (by rfl) dX0_look_23 ?_
      exact nd_ireturn hC rfl rfl (by omega) (by omega) dX0_look_24 R
theorem wb_tray (x : Int32) (y : Int32) (z : Int32) (S : sy_S) : (op_tray x y z S).1 ≤ 2 := by
  have := ty_f_le x S
  have := mk_f_le x S
  have := cr_f_le x S
  have := sk_f_le x S
  have := sn_f_le x y S
  have := jd_f_le x y S
  unfold op_tray
  repeat' split
  all_goals first | exact Nat.zero_le _ | exact Nat.le_refl _ | (simp; done) | (simp; omega) | omega
theorem wx_tray (hg : nd_OK g) (hd : 9 ≤ d) (x : Int32) (y : Int32) (z : Int32) : wp_ok g mX0_tray d 8 130 [.ref 0, .int x, .int y, .int z] (mp_v (op_tray x y z)) := by
  intro S h K ov hS hI hl hov hk
  obtain ⟨⟨x0, hO⟩, -⟩ : (∃ x, cx_O h (nI (sy_b S).length) (nI (sy_fk S)) (sy_fp S) x) ∧ True := by
    obtain ⟨-, o, nap, ds, gi, dss, hK⟩ := hI
    exact ⟨hK.1, trivial⟩
  unfold cx_O at hO
  have hbd := wb_tray x y z S
  have hL0 : 122 < h.length := by omega
  refine nd_enterH _ hg (by decide) rfl (Nat.le_of_ble_eq_true rfl) (fun X hC => ?_)
  refine nd_aload_n hC dX0_tray_0 rfl rfl ?_
  refine nd_iload_n hC dX0_tray_1 rfl ?_
  refine nd_iload_n hC dX0_tray_2 rfl ?_
  refine nd_iload_n hC dX0_tray_3 rfl ?_
  refine nd_callVX (mm2 := mX1_tray) (As := [_, _, _]) (mc2 := 8) (ms2 := 130) (d2 := d - 1) hC rfl lkX0_116 ⟨rfl, lmX1_tray⟩ (hO) rfl (Nat.le_of_ble_eq_true rfl) (by omega) rfl (by exact Nat.le_of_ble_eq_true rfl) (by omega) (by omega) dX0_tray_4 rfl ((cp_tray hg (by omega) x y z S h _ hS hI hl (fun e0 h2 I2 f2 => ?_) (fun e0 h2 k I2 f2 => ?_)))
  · refine nd_goto hC (tgt := 18) dX0_tray_7 (by decide) ?_
    refine nd_iconst hC (v := nI 0) (by rfl) dX0_tray_18 ?_
    refine nd_ireturn hC rfl rfl (by omega) (by omega) dX0_tray_19 ?_
    have R := hk h2 ov I2 f2.1 (fun a z1 z2 => f2.2 a z1 (by omega)) ((f2.2 122 (by omega) (by omega)).trans hov) (fun _ => trivial)
    have e1 : (op_tray x y z S).1 = 0 := e0
    have R : K (.inl (some (.int (nI (op_tray x y z S).1)))) h2 := R
    rw [e1] at R
    exact R
  · have e0 : (op_tray x y z S).1 ≠ 0 := e0
    have hov2 := (f2.2 122 (by omega) (by omega)).trans hov
    rcases (show (op_tray x y z S).1 = 1 ∨ (op_tray x y z S).1 = 2 by omega) with qq | qq
    · have q : (op_tray x y z S).1 = 1 := by omega
      have R := hk h2 ov I2 f2.1 (fun a z1 z2 => f2.2 a z1 (by omega)) hov2 (fun y => absurd y e0)
      have R : K (.inl (some (.int (nI (op_tray x y z S).1)))) h2 := R
      rw [q] at R
      show nd_T _ _ _ _ _ _ _ _ _ (ex2 eNSE eIAE (op_tray x y z S).1) _ _ _ _
      rw [q]
      refine nd_catch hC (E := "java/util/NoSuchElementException") "java/util/NoSuchElementException" [] (0, 7, 10, 19) [(0, 7, 14, 13)] rfl rfl (fun z hz => ?_) (by decide) (by decide) q1931 q1947 ?_
      · exact absurd hz (List.not_mem_nil)
      refine nd_astore hC dX0_tray_10 (Nat.le_of_ble_eq_true rfl) rfl ?_
      refine nd_iconst hC (v := nI 1) (by rfl) dX0_tray_12 ?_
      exact nd_ireturn hC rfl rfl (by omega) (by omega) dX0_tray_13 R
    · have q : (op_tray x y z S).1 = 2 := by omega
      have R := hk h2 ov I2 f2.1 (fun a z1 z2 => f2.2 a z1 (by omega)) hov2 (fun y => absurd y e0)
      have R : K (.inl (some (.int (nI (op_tray x y z S).1)))) h2 := R
      rw [q] at R
      show nd_T _ _ _ _ _ _ _ _ _ (ex2 eNSE eIAE (op_tray x y z S).1) _ _ _ _
      rw [q]
      refine nd_catch hC (E := "java/lang/IllegalArgumentException") "java/lang/IllegalArgumentException" [(0, 7, 10, 19)] (0, 7, 14, 13) [] rfl rfl (fun z hz => ?_) (by decide) (by decide) q1529 q1109 ?_
      · have hz : z = ⟨0, 7, 10, 19⟩ := by simpa [tableOf] using hz
        rcases hz with hz
        · subst hz
          exact Or.inr ⟨by decide, "java/util/NoSuchElementException", q1931, nw_nc hC [false, false, true, true, false, false, true, true, true, true, false] rfl⟩
      refine nd_astore hC dX0_tray_14 (Nat.le_of_ble_eq_true rfl) rfl ?_
      refine nd_iconst hC (v := nI 2) (by rfl) dX0_tray_16 ?_
      exact nd_ireturn hC rfl rfl (by omega) (by omega) dX0_tray_17 R
theorem wb_write (x : Int32) (y : Int32) (v : Int64) (S : sy_S) : (op_write x y v S).1 ≤ 3 := by
  have := ty_f_le x S
  have := mk_f_le x S
  have := cr_f_le x S
  have := sk_f_le x S
  have := sn_f_le x y S
  have := jd_f_le x y S
  unfold op_write
  repeat' split
  all_goals first | exact Nat.zero_le _ | exact Nat.le_refl _ | (simp; done) | (simp; omega) | omega
theorem wx_write (hg : nd_OK g) (hd : 9 ≤ d) (x : Int32) (y : Int32) (v : Int64) : wp_ok g mX0_write d 8 300 [.ref 0, .int x, .int y, .long v, .ref 122] (mp_j (op_write x y v)) := by
  intro S h K ov hS hI hl hov hk
  obtain ⟨⟨x0, hO⟩, -⟩ : (∃ x, cx_O h (nI (sy_b S).length) (nI (sy_fk S)) (sy_fp S) x) ∧ True := by
    obtain ⟨-, o, nap, ds, gi, dss, hK⟩ := hI
    exact ⟨hK.1, trivial⟩
  unfold cx_O at hO
  have hbd := wb_write x y v S
  have hL0 : 122 < h.length := by omega
  refine nd_enterH _ hg (by decide) rfl (Nat.le_of_ble_eq_true rfl) (fun X hC => ?_)
  refine nd_aload hC dX0_write_0 rfl rfl ?_
  refine nd_iconst hC (v := nI 0) (by rfl) dX0_write_2 ?_
  refine nd_aload_n hC dX0_write_3 rfl rfl ?_
  refine nd_iload_n hC dX0_write_4 rfl ?_
  refine nd_iload_n hC dX0_write_5 rfl ?_
  refine nd_lload_n hC dX0_write_6 rfl ?_
  refine nd_callVX (mm2 := mX1_write) (As := [_, _, _]) (mc2 := 8) (ms2 := 300) (d2 := d - 1) hC rfl lkX0_120 ⟨rfl, lmX1_write⟩ (hO) rfl (Nat.le_of_ble_eq_true rfl) (by omega) rfl (by exact Nat.le_of_ble_eq_true rfl) (by omega) (by omega) dX0_write_7 rfl ((cp_write hg (by omega) x y v S h _ hS hI hl (fun e0 h2 I2 f2 => ?_) (fun e0 h2 k I2 f2 => ?_)))
  · have hov2 := (f2.2 122 (by omega) (by omega)).trans hov
    have hlv : (op_write x y v S).2.1 = (op_write x y v S).2.1 := rfl
    refine nd_lastoreN (j := 0) (n := 1) hC hov2 (by omega) (by omega) dX0_write_10 ?_
    refine nd_goto hC (tgt := 26) dX0_write_11 (by decide) ?_
    refine nd_iconst hC (v := nI 0) (by rfl) dX0_write_26 ?_
    refine nd_ireturn hC rfl rfl (by omega) (by omega) dX0_write_27 ?_
    have l2 : 122 < h2.length := by have := f2.1; omega
    have e1 : (op_write x y v S).1 = 0 := e0
    suffices R : K (.inl (some (.int (nI (op_write x y v S).1)))) _ by
      rw [e1] at R
      exact R
    exact hk _ _ I2.o122 (by rw [List.length_set]; exact f2.1) (fun a z1 z2 => (List.getElem?_set_ne (by omega)).trans (f2.2 a z1 (by omega))) (List.getElem?_set_self l2) (fun _ => rfl)
  · have e0 : (op_write x y v S).1 ≠ 0 := e0
    have hov2 := (f2.2 122 (by omega) (by omega)).trans hov
    rcases (show (op_write x y v S).1 = 1 ∨ (op_write x y v S).1 = 2 ∨ (op_write x y v S).1 = 3 by omega) with qq | qq | qq
    · have q : (op_write x y v S).1 = 1 := by omega
      have R := hk h2 ov I2 f2.1 (fun a z1 z2 => f2.2 a z1 (by omega)) hov2 (fun y => absurd y e0)
      have R : K (.inl (some (.int (nI (op_write x y v S).1)))) h2 := R
      rw [q] at R
      show nd_T _ _ _ _ _ _ _ _ _ (ex3 eNSE eISE eIOB (op_write x y v S).1) _ _ _ _
      rw [q]
      refine nd_catch hC (E := "java/util/NoSuchElementException") "java/util/NoSuchElementException" [] (0, 11, 14, 19) [(0, 11, 18, 46), (0, 11, 22, 124)] rfl rfl (fun z hz => ?_) (by decide) (by decide) q1931 q1947 ?_
      · exact absurd hz (List.not_mem_nil)
      refine nd_astore hC dX0_write_14 (Nat.le_of_ble_eq_true rfl) rfl ?_
      refine nd_iconst hC (v := nI 1) (by rfl) dX0_write_16 ?_
      exact nd_ireturn hC rfl rfl (by omega) (by omega) dX0_write_17 R
    · have q : (op_write x y v S).1 = 2 := by omega
      have R := hk h2 ov I2 f2.1 (fun a z1 z2 => f2.2 a z1 (by omega)) hov2 (fun y => absurd y e0)
      have R : K (.inl (some (.int (nI (op_write x y v S).1)))) h2 := R
      rw [q] at R
      show nd_T _ _ _ _ _ _ _ _ _ (ex3 eNSE eISE eIOB (op_write x y v S).1) _ _ _ _
      rw [q]
      refine nd_catch hC (E := "java/lang/IllegalStateException") "java/lang/IllegalStateException" [(0, 11, 14, 19)] (0, 11, 18, 46) [(0, 11, 22, 124)] rfl rfl (fun z hz => ?_) (by decide) (by decide) q2020 q2030 ?_
      · have hz : z = ⟨0, 11, 14, 19⟩ := by simpa [tableOf] using hz
        rcases hz with hz
        · subst hz
          exact Or.inr ⟨by decide, "java/util/NoSuchElementException", q1931, nw_nc hC [false, false, true, true, false, true, false, true, true, true, true] rfl⟩
      refine nd_astore hC dX0_write_18 (Nat.le_of_ble_eq_true rfl) rfl ?_
      refine nd_iconst hC (v := nI 2) (by rfl) dX0_write_20 ?_
      exact nd_ireturn hC rfl rfl (by omega) (by omega) dX0_write_21 R
    · have q : (op_write x y v S).1 = 3 := by omega
      have R := hk h2 ov I2 f2.1 (fun a z1 z2 => f2.2 a z1 (by omega)) hov2 (fun y => absurd y e0)
      have R : K (.inl (some (.int (nI (op_write x y v S).1)))) h2 := R
      rw [q] at R
      show nd_T _ _ _ _ _ _ _ _ _ (ex3 eNSE eISE eIOB (op_write x y v S).1) _ _ _ _
      rw [q]
      refine nd_catch hC (E := "java/lang/IndexOutOfBoundsException") "java/lang/IndexOutOfBoundsException" [(0, 11, 14, 19), (0, 11, 18, 46)] (0, 11, 22, 124) [] rfl rfl (fun z hz => ?_) (by decide) (by decide) q2563 q2596 ?_
      · have hz : z = ⟨0, 11, 14, 19⟩ ∨ z = ⟨0, 11, 18, 46⟩ := by simpa [tableOf] using hz
        rcases hz with hz | hz
        · subst hz
          exact Or.inr ⟨by decide, "java/util/NoSuchElementException", q1931, nw_nc hC [false, false, true, true, true, false, false, true, false, true, false] rfl⟩
        · subst hz
          exact Or.inr ⟨by decide, "java/lang/IllegalStateException", q2020, nw_nc hC [false, true, false, false, false, false, false, false, false, true, true] rfl⟩
      refine nd_astore hC dX0_write_22 (Nat.le_of_ble_eq_true rfl) rfl ?_
      refine nd_iconst hC (v := nI 3) (by rfl) dX0_write_24 ?_
      exact nd_ireturn hC rfl rfl (by omega) (by omega) dX0_write_25 R
theorem wb_copy (x : Int32) (S : sy_S) : (op_copy x S).1 ≤ 2 := by
  have := ty_f_le x S
  have := mk_f_le x S
  have := cr_f_le x S
  have := sk_f_le x S
  unfold op_copy
  repeat' split
  all_goals first | exact Nat.zero_le _ | exact Nat.le_refl _ | (simp; done) | (simp; omega) | omega
theorem wx_copy (hg : nd_OK g) (hd : 9 ≤ d) (x : Int32) : wp_ok g mX0_copy d 2 12 [.ref 0, .int x, .ref 122] (mp_i (op_copy x)) := by
  intro S h K ov hS hI hl hov hk
  obtain ⟨⟨x0, hO⟩, -⟩ : (∃ x, cx_O h (nI (sy_b S).length) (nI (sy_fk S)) (sy_fp S) x) ∧ True := by
    obtain ⟨-, o, nap, ds, gi, dss, hK⟩ := hI
    exact ⟨hK.1, trivial⟩
  unfold cx_O at hO
  have hbd := wb_copy x S
  have hL0 : 122 < h.length := by omega
  refine nd_enterH _ hg (by decide) rfl (Nat.le_of_ble_eq_true rfl) (fun X hC => ?_)
  refine nd_aload_n hC dX0_copy_0 rfl rfl ?_
  refine nd_iconst hC (v := nI 0) (by rfl) dX0_copy_1 ?_
  refine nd_aload_n hC dX0_copy_2 rfl rfl ?_
  refine nd_iload_n hC dX0_copy_3 rfl ?_
  refine nd_callV (mm2 := mX1_copy) (As := [_]) (mc2 := 2) (ms2 := 12) (d2 := d - 1) hC rfl lkX0_126 ⟨rfl, lmX1_copy⟩ (hO) rfl (Nat.le_of_ble_eq_true rfl) (by omega) rfl (by exact Nat.le_of_ble_eq_true rfl) (by omega) (by omega) dX0_copy_4 rfl ((cp_copy hg (by omega) x S h _ hS hI hl (fun e0 h2 I2 f2 => ?_) (fun e0 h2 k I2 f2 => ?_)))
  · have hov2 := (f2.2 122 (by omega) (by omega)).trans hov
    first | with_reducible refine nd_i2lN hC (by omega) dX0_copy_7 ?_ | refine nd_i2l hC dX0_copy_7 ?_
    refine nd_lastoreN (j := 0) (n := 1) hC hov2 (by omega) (by omega) dX0_copy_8 ?_
    refine nd_goto hC (tgt := 18) dX0_copy_9 (by decide) ?_
    refine nd_iconst hC (v := nI 0) (by rfl) dX0_copy_18 ?_
    refine nd_ireturn hC rfl rfl (by omega) (by omega) dX0_copy_19 ?_
    have l2 : 122 < h2.length := by have := f2.1; omega
    have e1 : (op_copy x S).1 = 0 := e0
    suffices R : K (.inl (some (.int (nI (op_copy x S).1)))) _ by
      rw [e1] at R
      exact R
    exact hk _ _ I2.o122 (by rw [List.length_set]; exact f2.1) (fun a z1 z2 => (List.getElem?_set_ne (by omega)).trans (f2.2 a z1 (by omega))) (List.getElem?_set_self l2) (fun _ => rfl)
  · have e0 : (op_copy x S).1 ≠ 0 := e0
    have hov2 := (f2.2 122 (by omega) (by omega)).trans hov
    rcases (show (op_copy x S).1 = 1 ∨ (op_copy x S).1 = 2 by omega) with qq | qq
    · have q : (op_copy x S).1 = 1 := by omega
      have R := hk h2 ov I2 f2.1 (fun a z1 z2 => f2.2 a z1 (by omega)) hov2 (fun y => absurd y e0)
      have R : K (.inl (some (.int (nI (op_copy x S).1)))) h2 := R
      rw [q] at R
      show nd_T _ _ _ _ _ _ _ _ _ (ex2 eNSE eISE (op_copy x S).1) _ _ _ _
      rw [q]
      refine nd_catch hC (E := "java/util/NoSuchElementException") "java/util/NoSuchElementException" [] (0, 9, 12, 19) [(0, 9, 15, 46)] rfl rfl (fun z hz => ?_) (by decide) (by decide) q1931 q1947 ?_
      · exact absurd hz (List.not_mem_nil)
      refine nd_astore_n hC dX0_copy_12 (Nat.le_of_ble_eq_true rfl) rfl ?_
      refine nd_iconst hC (v := nI 1) (by rfl) dX0_copy_13 ?_
      exact nd_ireturn hC rfl rfl (by omega) (by omega) dX0_copy_14 R
    · have q : (op_copy x S).1 = 2 := by omega
      have R := hk h2 ov I2 f2.1 (fun a z1 z2 => f2.2 a z1 (by omega)) hov2 (fun y => absurd y e0)
      have R : K (.inl (some (.int (nI (op_copy x S).1)))) h2 := R
      rw [q] at R
      show nd_T _ _ _ _ _ _ _ _ _ (ex2 eNSE eISE (op_copy x S).1) _ _ _ _
      rw [q]
      refine nd_catch hC (E := "java/lang/IllegalStateException") "java/lang/IllegalStateException" [(0, 9, 12, 19)] (0, 9, 15, 46) [] rfl rfl (fun z hz => ?_) (by decide) (by decide) q2020 q2030 ?_
      · have hz : z = ⟨0, 9, 12, 19⟩ := by simpa [tableOf] using hz
        rcases hz with hz
        · subst hz
          exact Or.inr ⟨by decide, "java/util/NoSuchElementException", q1931, nw_nc hC [false, false, true, true, false, true, false, true, true, true, true] rfl⟩
      refine nd_astore_n hC dX0_copy_15 (Nat.le_of_ble_eq_true rfl) rfl ?_
      refine nd_iconst hC (v := nI 2) (by rfl) dX0_copy_16 ?_
      exact nd_ireturn hC rfl rfl (by omega) (by omega) dX0_copy_17 R
theorem wb_image (x : Int32) (S : sy_S) : (op_image x S).1 ≤ 1 := by
  have := ty_f_le x S
  have := mk_f_le x S
  have := cr_f_le x S
  have := sk_f_le x S
  unfold op_image
  repeat' split
  all_goals first | exact Nat.zero_le _ | exact Nat.le_refl _ | (simp; done) | (simp; omega) | omega
theorem wx_image (hg : nd_OK g) (hd : 13 ≤ d) (x : Int32) : wp_ok g mX0_image d 110 600 [.ref 0, .int x] (mp_v (op_image x)) := by
  intro S h K ov hS hI hl hov hk
  obtain ⟨⟨x0, hO⟩, -⟩ : (∃ x, cx_O h (nI (sy_b S).length) (nI (sy_fk S)) (sy_fp S) x) ∧ True := by
    obtain ⟨-, o, nap, ds, gi, dss, hK⟩ := hI
    exact ⟨hK.1, trivial⟩
  unfold cx_O at hO
  have hbd := wb_image x S
  have hL0 : 122 < h.length := by omega
  refine nd_enterH _ hg (by decide) rfl (Nat.le_of_ble_eq_true rfl) (fun X hC => ?_)
  refine nd_aload_n hC dX0_image_0 rfl rfl ?_
  refine nd_iload_n hC dX0_image_1 rfl ?_
  refine nd_callV (mm2 := mX1_image) (As := [_]) (mc2 := 110) (ms2 := 600) (d2 := d - 1) hC rfl lkX0_129 ⟨rfl, lmX1_image⟩ (hO) rfl (Nat.le_of_ble_eq_true rfl) (by omega) rfl (by exact Nat.le_of_ble_eq_true rfl) (by omega) (by omega) dX0_image_2 rfl ((cp_image hg (by omega) x S h _ hS hI hl (fun e0 h2 I2 f2 => ?_) (fun e0 h2 k I2 f2 => ?_)))
  · refine nd_goto hC (tgt := 11) dX0_image_5 (by decide) ?_
    refine nd_iconst hC (v := nI 0) (by rfl) dX0_image_11 ?_
    refine nd_ireturn hC rfl rfl (by omega) (by omega) dX0_image_12 ?_
    have R := hk h2 ov I2 f2.1 (fun a z1 z2 => f2.2 a z1 (by omega)) ((f2.2 122 (by omega) (by omega)).trans hov) (fun _ => trivial)
    have e1 : (op_image x S).1 = 0 := e0
    have R : K (.inl (some (.int (nI (op_image x S).1)))) h2 := R
    rw [e1] at R
    exact R
  · have e0 : (op_image x S).1 ≠ 0 := e0
    have hov2 := (f2.2 122 (by omega) (by omega)).trans hov
    have q : (op_image x S).1 = 1 := by omega
    have R := hk h2 ov I2 f2.1 (fun a z1 z2 => f2.2 a z1 (by omega)) hov2 (fun y => absurd y e0)
    have R : K (.inl (some (.int (nI (op_image x S).1)))) h2 := R
    rw [q] at R
    show nd_T _ _ _ _ _ _ _ _ _ (ex1 eNSE (op_image x S).1) _ _ _ _
    rw [q]
    refine nd_catch hC (E := "java/util/NoSuchElementException") "java/util/NoSuchElementException" [] (0, 5, 8, 19) [] rfl rfl (fun z hz => ?_) (by decide) (by decide) q1931 q1947 ?_
    · exact absurd hz (List.not_mem_nil)
    refine nd_astore_n hC dX0_image_8 (Nat.le_of_ble_eq_true rfl) rfl ?_
    refine nd_iconst hC (v := nI 1) (by rfl) dX0_image_9 ?_
    exact nd_ireturn hC rfl rfl (by omega) (by omega) dX0_image_10 R
theorem wb_restore (x : Int32) (S : sy_S) : (op_restore x S).1 ≤ 2 := by
  have := ty_f_le x S
  have := mk_f_le x S
  have := cr_f_le x S
  have := sk_f_le x S
  unfold op_restore
  repeat' split
  all_goals first | exact Nat.zero_le _ | exact Nat.le_refl _ | (simp; done) | (simp; omega) | omega
theorem wx_restore (hg : nd_OK g) (hd : 13 ≤ d) (x : Int32) : wp_ok g mX0_restore d 110 600 [.ref 0, .int x] (mp_v (op_restore x)) := by
  intro S h K ov hS hI hl hov hk
  obtain ⟨⟨x0, hO⟩, -⟩ : (∃ x, cx_O h (nI (sy_b S).length) (nI (sy_fk S)) (sy_fp S) x) ∧ True := by
    obtain ⟨-, o, nap, ds, gi, dss, hK⟩ := hI
    exact ⟨hK.1, trivial⟩
  unfold cx_O at hO
  have hbd := wb_restore x S
  have hL0 : 122 < h.length := by omega
  refine nd_enterH _ hg (by decide) rfl (Nat.le_of_ble_eq_true rfl) (fun X hC => ?_)
  refine nd_aload_n hC dX0_restore_0 rfl rfl ?_
  refine nd_iload_n hC dX0_restore_1 rfl ?_
  refine nd_callV (mm2 := mX1_restore) (As := [_]) (mc2 := 110) (ms2 := 600) (d2 := d - 1) hC rfl lkX0_133 ⟨rfl, lmX1_restore⟩ (hO) rfl (Nat.le_of_ble_eq_true rfl) (by omega) rfl (by exact Nat.le_of_ble_eq_true rfl) (by omega) (by omega) dX0_restore_2 rfl ((cp_restore hg (by omega) x S h _ hS hI hl (fun e0 h2 I2 f2 => ?_) (fun e0 h2 k I2 f2 => ?_)))
  · refine nd_goto hC (tgt := 14) dX0_restore_5 (by decide) ?_
    refine nd_iconst hC (v := nI 0) (by rfl) dX0_restore_14 ?_
    refine nd_ireturn hC rfl rfl (by omega) (by omega) dX0_restore_15 ?_
    have R := hk h2 ov I2 f2.1 (fun a z1 z2 => f2.2 a z1 (by omega)) ((f2.2 122 (by omega) (by omega)).trans hov) (fun _ => trivial)
    have e1 : (op_restore x S).1 = 0 := e0
    have R : K (.inl (some (.int (nI (op_restore x S).1)))) h2 := R
    rw [e1] at R
    exact R
  · have e0 : (op_restore x S).1 ≠ 0 := e0
    have hov2 := (f2.2 122 (by omega) (by omega)).trans hov
    rcases (show (op_restore x S).1 = 1 ∨ (op_restore x S).1 = 2 by omega) with qq | qq
    · have q : (op_restore x S).1 = 1 := by omega
      have R := hk h2 ov I2 f2.1 (fun a z1 z2 => f2.2 a z1 (by omega)) hov2 (fun y => absurd y e0)
      have R : K (.inl (some (.int (nI (op_restore x S).1)))) h2 := R
      rw [q] at R
      show nd_T _ _ _ _ _ _ _ _ _ (ex2 eNSE eISE (op_restore x S).1) _ _ _ _
      rw [q]
      refine nd_catch hC (E := "java/util/NoSuchElementException") "java/util/NoSuchElementException" [] (0, 5, 8, 19) [(0, 5, 11, 46)] rfl rfl (fun z hz => ?_) (by decide) (by decide) q1931 q1947 ?_
      · exact absurd hz (List.not_mem_nil)
      refine nd_astore_n hC dX0_restore_8 (Nat.le_of_ble_eq_true rfl) rfl ?_
      refine nd_iconst hC (v := nI 1) (by rfl) dX0_restore_9 ?_
      exact nd_ireturn hC rfl rfl (by omega) (by omega) dX0_restore_10 R
    · have q : (op_restore x S).1 = 2 := by omega
      have R := hk h2 ov I2 f2.1 (fun a z1 z2 => f2.2 a z1 (by omega)) hov2 (fun y => absurd y e0)
      have R : K (.inl (some (.int (nI (op_restore x S).1)))) h2 := R
      rw [q] at R
      show nd_T _ _ _ _ _ _ _ _ _ (ex2 eNSE eISE (op_restore x S).1) _ _ _ _
      rw [q]
      refine nd_catch hC (E := "java/lang/IllegalStateException") "java/lang/IllegalStateException" [(0, 5, 8, 19)] (0, 5, 11, 46) [] rfl rfl (fun z hz => ?_) (by decide) (by decide) q2020 q2030 ?_
      · have hz : z = ⟨0, 5, 8, 19⟩ := by simpa [tableOf] using hz
        rcases hz with hz
        · subst hz
          exact Or.inr ⟨by decide, "java/util/NoSuchElementException", q1931, nw_nc hC [false, false, true, true, false, true, false, true, true, true, true] rfl⟩
      refine nd_astore_n hC dX0_restore_11 (Nat.le_of_ble_eq_true rfl) rfl ?_
      refine nd_iconst hC (v := nI 2) (by rfl) dX0_restore_12 ?_
      exact nd_ireturn hC rfl rfl (by omega) (by omega) dX0_restore_13 R
end WR98

