set_option maxRecDepth 100000
/-! ===== 'sees' of the searches, whatever is asked ===== -/
theorem lw_O {own : String} {idx : Nat} {C owner : String} {x y : MethodName} {b : ByteArray} {L : Nat} {r : Option FieldType} (h1 : Cond.methodLink own idx x ∈ lw_all) (h0 : Cond.sameMethod x.cls owner x.name x.desc ∈ lw_all) (h6 : Cond.instanceMethod ⟨owner, x.name, x.desc⟩ ∈ lw_all) (h2 : Cond.selects C x y ∈ lw_all) (h3 : Cond.instanceMethod y ∈ lw_all) (h4 : Cond.initialized y.cls ∈ lw_all) (h5 : Cond.code y b L r ∈ lw_all) : GoodIn lw_all (va_wsO own idx C owner x y (ws_ y b L r)) := by
  refine lw_app ?_ (lw_meth h5)
  intro w hw
  simp only [List.mem_cons, List.not_mem_nil, or_false] at hw
  rcases hw with e | e | e | e | e | e <;> rw [e] <;> assumption
section SE84
variable {g : nd_G} {d : Nat} {K : nd_K} {h : nd_H}
theorem cm_seesX22 (hg : nd_OK g) (hd : 1 ≤ d) {Q : nd_H → Prop} {b L m : Nat} {more folds : Int32} {x1 x2 x3 x4 x5 : Value} {v : Bool} (hb : h[b]? = some (.inr (nX22, [.int (nI m), x1, x2, x3, x4, x5]))) (E : ∀ K, (∀ h2, Q h2 → K (.inl (some (.int (nd_b v)))) h2) → nd_M g mX22_isSo (d - 1) 0 0 [.ref b, .ref L, .int more, .int folds] h K) (hQ : ∀ h2, Q h2 → h2[b]? = h[b]?) (hm : m < 1000000) (hk : ∀ h2, Q h2 → K (.inl none) (h2.set b (.inr (nX22, [.int (nI (m + v.toNat)), x1, x2, x3, x4, x5])))) : nd_M g mX21_sees d 0 0 [.ref b, .ref L, .int more, .int folds] h K := by
  refine nd_enter hg (by decide) rfl (Nat.le_of_ble_eq_true rfl) (fun X hC => ?_)
  refine nd_aload_n hC dX21_sees_0 rfl rfl ?_
  refine nd_dup hC (by rfl) dX21_sees_1 ?_
  refine nd_get (ci := nX22) hC in_X22 rfl hb 0 (by decide) q2142 (fun _ z => z) rfl dX21_sees_2 ?_
  refine nd_aload_n hC dX21_sees_5 rfl rfl ?_
  refine nd_aload_n hC dX21_sees_6 rfl rfl ?_
  refine nd_iload_n hC dX21_sees_7 rfl ?_
  refine nd_iload_n hC dX21_sees_8 rfl ?_
  refine nd_callU (mm2 := mX22_isSo) (As := [_, _, _]) (mc2 := 0) (ms2 := 0) (d2 := d - 1) (owner := "NapkinDeeds$Many") (x := ⟨"NapkinDeeds$Many", "isSo", "(LNapkinDeeds$Look;II)Z"⟩) (n := 3) hC rfl (va_cwA 3 hC.hts (lw_U q836 q838 q839 q840 q192 q841) rfl rfl rfl (nd_dec hC q837) ⟨by decide, by decide, by decide +kernel⟩ (nd_roomR (by omega) (by decide))) hb rfl (by decide) (by omega) rfl (by exact Nat.le_of_ble_eq_true rfl) (by omega) (by omega) dX21_sees_9 rfl (E _ (fun h2 hq => ?_))
  have hb2 := (hQ h2 hq).trans hb
  have R := hk h2 hq
  first | with_reducible refine nd_if_eqB hC (tgt := 19) dX21_sees_12 (by decide) (fun hc => ?_) (fun hc => ?_) | with_reducible refine nd_if_eqN hC (tgt := 19) (by omega) dX21_sees_12 (by decide) (fun hc => ?_) (fun hc => ?_) | refine nd_if_eq hC (tgt := 19) dX21_sees_12 (by decide) (fun hc => ?_) (fun hc => ?_)
  · subst hc
    refine nd_iconst hC (v := nI 0) (by rfl) dX21_sees_19 ?_
    first | with_reducible refine nd_iaddN hC dX21_sees_20 ?_ | refine nd_iadd hC dX21_sees_20 ?_
    refine nd_put (ci := nX22) hC in_X22 rfl hb2 0 (by decide) tyX22 tyX22_ok (by decide +kernel) q2142 (fun _ z => z) rfl rfl rfl (by show 0 < 6; decide) dX21_sees_21 ?_
    refine nd_return hC rfl (by omega) (by omega) dX21_sees_24 (R)
  · subst hc
    refine nd_iconst hC (v := nI 1) (by rfl) dX21_sees_15 ?_
    refine nd_goto hC (tgt := 20) dX21_sees_16 (by decide) ?_
    first | with_reducible refine nd_iaddN hC dX21_sees_20 ?_ | refine nd_iadd hC dX21_sees_20 ?_
    refine nd_put (ci := nX22) hC in_X22 rfl hb2 0 (by decide) tyX22 tyX22_ok (by decide +kernel) q2142 (fun _ z => z) rfl rfl rfl (by show 0 < 6; decide) dX21_sees_21 ?_
    refine nd_return hC rfl (by omega) (by omega) dX21_sees_24 (R)
theorem cm_seesX33 (hg : nd_OK g) (hd : 1 ≤ d) {Q : nd_H → Prop} {b L m : Nat} {more folds : Int32} {x1 x2 x3 x4 x5 : Value} {v : Bool} (hb : h[b]? = some (.inr (nX33, [.int (nI m), x1, x2, x3, x4, x5]))) (E : ∀ K, (∀ h2, Q h2 → K (.inl (some (.int (nd_b v)))) h2) → nd_M g mX33_isSo (d - 1) 0 0 [.ref b, .ref L, .int more, .int folds] h K) (hQ : ∀ h2, Q h2 → h2[b]? = h[b]?) (hm : m < 1000000) (hk : ∀ h2, Q h2 → K (.inl none) (h2.set b (.inr (nX33, [.int (nI (m + v.toNat)), x1, x2, x3, x4, x5])))) : nd_M g mX21_sees d 0 0 [.ref b, .ref L, .int more, .int folds] h K := by
  refine nd_enter hg (by decide) rfl (Nat.le_of_ble_eq_true rfl) (fun X hC => ?_)
  refine nd_aload_n hC dX21_sees_0 rfl rfl ?_
  refine nd_dup hC (by rfl) dX21_sees_1 ?_
  refine nd_get (ci := nX33) hC in_X33 rfl hb 0 (by decide) q2142 (fun _ z => z) rfl dX21_sees_2 ?_
  refine nd_aload_n hC dX21_sees_5 rfl rfl ?_
  refine nd_aload_n hC dX21_sees_6 rfl rfl ?_
  refine nd_iload_n hC dX21_sees_7 rfl ?_
  refine nd_iload_n hC dX21_sees_8 rfl ?_
  refine nd_callU (mm2 := mX33_isSo) (As := [_, _, _]) (mc2 := 0) (ms2 := 0) (d2 := d - 1) (owner := "NapkinDeeds$Many") (x := ⟨"NapkinDeeds$Many", "isSo", "(LNapkinDeeds$Look;II)Z"⟩) (n := 3) hC rfl (va_cwA 3 hC.hts (lw_U q836 q838 q842 q843 q209 q844) rfl rfl rfl (nd_dec hC q837) ⟨by decide, by decide, by decide +kernel⟩ (nd_roomR (by omega) (by decide))) hb rfl (by decide) (by omega) rfl (by exact Nat.le_of_ble_eq_true rfl) (by omega) (by omega) dX21_sees_9 rfl (E _ (fun h2 hq => ?_))
  have hb2 := (hQ h2 hq).trans hb
  have R := hk h2 hq
  first | with_reducible refine nd_if_eqB hC (tgt := 19) dX21_sees_12 (by decide) (fun hc => ?_) (fun hc => ?_) | with_reducible refine nd_if_eqN hC (tgt := 19) (by omega) dX21_sees_12 (by decide) (fun hc => ?_) (fun hc => ?_) | refine nd_if_eq hC (tgt := 19) dX21_sees_12 (by decide) (fun hc => ?_) (fun hc => ?_)
  · subst hc
    refine nd_iconst hC (v := nI 0) (by rfl) dX21_sees_19 ?_
    first | with_reducible refine nd_iaddN hC dX21_sees_20 ?_ | refine nd_iadd hC dX21_sees_20 ?_
    refine nd_put (ci := nX33) hC in_X33 rfl hb2 0 (by decide) tyX33 tyX33_ok (by decide +kernel) q2142 (fun _ z => z) rfl rfl rfl (by show 0 < 6; decide) dX21_sees_21 ?_
    refine nd_return hC rfl (by omega) (by omega) dX21_sees_24 (R)
  · subst hc
    refine nd_iconst hC (v := nI 1) (by rfl) dX21_sees_15 ?_
    refine nd_goto hC (tgt := 20) dX21_sees_16 (by decide) ?_
    first | with_reducible refine nd_iaddN hC dX21_sees_20 ?_ | refine nd_iadd hC dX21_sees_20 ?_
    refine nd_put (ci := nX33) hC in_X33 rfl hb2 0 (by decide) tyX33 tyX33_ok (by decide +kernel) q2142 (fun _ z => z) rfl rfl rfl (by show 0 < 6; decide) dX21_sees_21 ?_
    refine nd_return hC rfl (by omega) (by omega) dX21_sees_24 (R)
theorem cu_seesX24 (hg : nd_OK g) (hd : 1 ≤ d) {Q : nd_H → Prop} {b L m : Nat} {more folds : Int32} {x2 x3 x4 : Value} {v : Bool} {cd : Int64} {cf : Nat → Int64} (hb : h[b]? = some (.inr (nX24, [.int (nI m), .ref 0, x2, x3, x4]))) (hb9 : b ≠ 100) (E : ∀ K, (∀ h2, Q h2 → K (.inl (some (.int (nd_b v)))) h2) → nd_M g mX24_isSo (d - 1) 0 0 [.ref b, .ref L, .int folds] h K) (hQ : ∀ h2, Q h2 → h2[b]? = h[b]? ∧ (∃ tp fkd fat x, cx_O h2 tp fkd fat x) ∧ h2[100]? = some (.inl (1, 28000, .inr (.inl cf)))) (E2 : v = true → ∀ h2 K, Q h2 → K (.inl (some (.long cd))) h2 → nd_M g mX23_code (d - 1) 0 0 [.ref b, .ref L] h2 K) (hm : v = true → m < 28000) (hk0 : v = false → ∀ h2, Q h2 → K (.inl none) h2) (hk1 : v = true → ∀ h2, Q h2 → K (.inl none) ((h2.set 100 (.inl (1, 28000, .inr (.inl (vp_updL cf m cd))))).set b (.inr (nX24, [.int (nI (m + 1)), .ref 0, x2, x3, x4])))) : nd_M g mX23_sees d 0 0 [.ref b, .ref L, .int more, .int folds] h K := by
  refine nd_enter hg (by decide) rfl (Nat.le_of_ble_eq_true rfl) (fun X hC => ?_)
  refine nd_aload_n hC dX23_sees_0 rfl rfl ?_
  refine nd_aload_n hC dX23_sees_1 rfl rfl ?_
  refine nd_iload_n hC dX23_sees_2 rfl ?_
  refine nd_callU (mm2 := mX24_isSo) (As := [_, _]) (mc2 := 0) (ms2 := 0) (d2 := d - 1) (owner := "NapkinDeeds$Unlike") (x := ⟨"NapkinDeeds$Unlike", "isSo", "(LNapkinDeeds$Look;I)Z"⟩) (n := 2) hC rfl (va_cwA 2 hC.hts (lw_U q960 q962 q970 q971 q194 q972) rfl rfl rfl (nd_dec hC q961) ⟨by decide, by decide, by decide +kernel⟩ (nd_roomR (by omega) (by decide))) hb rfl (by decide) (by omega) rfl (by exact Nat.le_of_ble_eq_true rfl) (by omega) (by omega) dX23_sees_3 rfl (E _ (fun h2 hq => ?_))
  obtain ⟨e1, ⟨tp, fkd, fat, x, hO⟩, h100⟩ := hQ h2 hq
  unfold cx_O at hO
  have hb := e1.trans hb
  first | with_reducible refine nd_if_neB hC (tgt := 10) dX23_sees_6 (by decide) (fun hc => ?_) (fun hc => ?_) | with_reducible refine nd_if_neN hC (tgt := 10) (by omega) dX23_sees_6 (by decide) (fun hc => ?_) (fun hc => ?_) | refine nd_if_ne hC (tgt := 10) dX23_sees_6 (by decide) (fun hc => ?_) (fun hc => ?_)
  · have R := hk1 hc h2 hq
    have hm := hm hc
    refine nd_aload_n hC dX23_sees_10 rfl rfl ?_
    refine nd_get (ci := nX24) hC in_X24 rfl hb 1 (by decide) q1075 (fun _ z => z) rfl dX23_sees_11 ?_
    refine nd_getN (ci := nX1) hC in_X1 rfl hO 12 (by decide) q398 (fun _ z => z) rfl dX23_sees_14 ?_
    refine nd_aload_n hC dX23_sees_17 rfl rfl ?_
    refine nd_get (ci := nX24) hC in_X24 rfl hb 0 (by decide) q1074 (fun _ z => z) rfl dX23_sees_18 ?_
    refine nd_aload_n hC dX23_sees_21 rfl rfl ?_
    refine nd_aload_n hC dX23_sees_22 rfl rfl ?_
    refine nd_callU (mm2 := mX23_code) (As := [_]) (mc2 := 0) (ms2 := 0) (d2 := d - 1) (owner := "NapkinDeeds$Unlike") (x := ⟨"NapkinDeeds$Unlike", "code", "(LNapkinDeeds$Look;)J"⟩) (n := 1) hC rfl (va_cwU 1 hC.hts (lw_U q980 q982 q989 q981 q193 q995) rfl rfl rfl rfl ⟨by decide, by decide, by decide +kernel⟩ (nd_roomR (by omega) (by decide))) hb rfl (by decide) (by omega) rfl (by exact Nat.le_of_ble_eq_true rfl) (by omega) (by omega) dX23_sees_23 rfl (E2 hc h2 _ hq ?_)
    refine nd_lastoreN hC h100 (by omega) (by decide) dX23_sees_26 ?_
    have hb : (h2.set 100 (.inl (1, 28000, .inr (.inl (vp_updL cf m cd)))))[b]? = _ := (List.getElem?_set_ne (Ne.symm hb9)).trans hb
    refine nd_aload_n hC dX23_sees_27 rfl rfl ?_
    refine nd_dup hC (by rfl) dX23_sees_28 ?_
    refine nd_get (ci := nX24) hC in_X24 rfl hb 0 (by decide) q1074 (fun _ z => z) rfl dX23_sees_29 ?_
    refine nd_iconst hC (v := nI 1) (by rfl) dX23_sees_32 ?_
    first | with_reducible refine nd_iaddN hC dX23_sees_33 ?_ | refine nd_iadd hC dX23_sees_33 ?_
    refine nd_put (ci := nX24) hC in_X24 rfl hb 0 (by decide) tyX24 tyX24_ok (by decide +kernel) q1074 (fun _ z => z) rfl rfl rfl (by show 0 < 5; decide) dX23_sees_34 ?_
    refine nd_return hC rfl (by omega) (by omega) dX23_sees_37 (R)
  · refine nd_return hC rfl (by omega) (by omega) dX23_sees_9 ((hk0 hc h2 hq))
theorem cu_seesX28 (hg : nd_OK g) (hd : 1 ≤ d) {Q : nd_H → Prop} {b L m : Nat} {more folds : Int32} {x2 x3 x4 : Value} {v : Bool} {cd : Int64} {cf : Nat → Int64} (hb : h[b]? = some (.inr (nX28, [.int (nI m), .ref 0, x2, x3, x4]))) (hb9 : b ≠ 100) (E : ∀ K, (∀ h2, Q h2 → K (.inl (some (.int (nd_b v)))) h2) → nd_M g mX28_isSo (d - 1) 0 0 [.ref b, .ref L, .int folds] h K) (hQ : ∀ h2, Q h2 → h2[b]? = h[b]? ∧ (∃ tp fkd fat x, cx_O h2 tp fkd fat x) ∧ h2[100]? = some (.inl (1, 28000, .inr (.inl cf)))) (E2 : v = true → ∀ h2 K, Q h2 → K (.inl (some (.long cd))) h2 → nd_M g mX23_code (d - 1) 0 0 [.ref b, .ref L] h2 K) (hm : v = true → m < 28000) (hk0 : v = false → ∀ h2, Q h2 → K (.inl none) h2) (hk1 : v = true → ∀ h2, Q h2 → K (.inl none) ((h2.set 100 (.inl (1, 28000, .inr (.inl (vp_updL cf m cd))))).set b (.inr (nX28, [.int (nI (m + 1)), .ref 0, x2, x3, x4])))) : nd_M g mX23_sees d 0 0 [.ref b, .ref L, .int more, .int folds] h K := by
  refine nd_enter hg (by decide) rfl (Nat.le_of_ble_eq_true rfl) (fun X hC => ?_)
  refine nd_aload_n hC dX23_sees_0 rfl rfl ?_
  refine nd_aload_n hC dX23_sees_1 rfl rfl ?_
  refine nd_iload_n hC dX23_sees_2 rfl ?_
  refine nd_callU (mm2 := mX28_isSo) (As := [_, _]) (mc2 := 0) (ms2 := 0) (d2 := d - 1) (owner := "NapkinDeeds$Unlike") (x := ⟨"NapkinDeeds$Unlike", "isSo", "(LNapkinDeeds$Look;I)Z"⟩) (n := 2) hC rfl (va_cwA 2 hC.hts (lw_U q960 q962 q973 q974 q204 q975) rfl rfl rfl (nd_dec hC q961) ⟨by decide, by decide, by decide +kernel⟩ (nd_roomR (by omega) (by decide))) hb rfl (by decide) (by omega) rfl (by exact Nat.le_of_ble_eq_true rfl) (by omega) (by omega) dX23_sees_3 rfl (E _ (fun h2 hq => ?_))
  obtain ⟨e1, ⟨tp, fkd, fat, x, hO⟩, h100⟩ := hQ h2 hq
  unfold cx_O at hO
  have hb := e1.trans hb
  first | with_reducible refine nd_if_neB hC (tgt := 10) dX23_sees_6 (by decide) (fun hc => ?_) (fun hc => ?_) | with_reducible refine nd_if_neN hC (tgt := 10) (by omega) dX23_sees_6 (by decide) (fun hc => ?_) (fun hc => ?_) | refine nd_if_ne hC (tgt := 10) dX23_sees_6 (by decide) (fun hc => ?_) (fun hc => ?_)
  · have R := hk1 hc h2 hq
    have hm := hm hc
    refine nd_aload_n hC dX23_sees_10 rfl rfl ?_
    refine nd_get (ci := nX28) hC in_X28 rfl hb 1 (by decide) q1075 (fun _ z => z) rfl dX23_sees_11 ?_
    refine nd_getN (ci := nX1) hC in_X1 rfl hO 12 (by decide) q398 (fun _ z => z) rfl dX23_sees_14 ?_
    refine nd_aload_n hC dX23_sees_17 rfl rfl ?_
    refine nd_get (ci := nX28) hC in_X28 rfl hb 0 (by decide) q1074 (fun _ z => z) rfl dX23_sees_18 ?_
    refine nd_aload_n hC dX23_sees_21 rfl rfl ?_
    refine nd_aload_n hC dX23_sees_22 rfl rfl ?_
    refine nd_callU (mm2 := mX23_code) (As := [_]) (mc2 := 0) (ms2 := 0) (d2 := d - 1) (owner := "NapkinDeeds$Unlike") (x := ⟨"NapkinDeeds$Unlike", "code", "(LNapkinDeeds$Look;)J"⟩) (n := 1) hC rfl (va_cwU 1 hC.hts (lw_U q980 q982 q990 q981 q193 q995) rfl rfl rfl rfl ⟨by decide, by decide, by decide +kernel⟩ (nd_roomR (by omega) (by decide))) hb rfl (by decide) (by omega) rfl (by exact Nat.le_of_ble_eq_true rfl) (by omega) (by omega) dX23_sees_23 rfl (E2 hc h2 _ hq ?_)
    refine nd_lastoreN hC h100 (by omega) (by decide) dX23_sees_26 ?_
    have hb : (h2.set 100 (.inl (1, 28000, .inr (.inl (vp_updL cf m cd)))))[b]? = _ := (List.getElem?_set_ne (Ne.symm hb9)).trans hb
    refine nd_aload_n hC dX23_sees_27 rfl rfl ?_
    refine nd_dup hC (by rfl) dX23_sees_28 ?_
    refine nd_get (ci := nX28) hC in_X28 rfl hb 0 (by decide) q1074 (fun _ z => z) rfl dX23_sees_29 ?_
    refine nd_iconst hC (v := nI 1) (by rfl) dX23_sees_32 ?_
    first | with_reducible refine nd_iaddN hC dX23_sees_33 ?_ | refine nd_iadd hC dX23_sees_33 ?_
    refine nd_put (ci := nX28) hC in_X28 rfl hb 0 (by decide) tyX28 tyX28_ok (by decide +kernel) q1074 (fun _ z => z) rfl rfl rfl (by show 0 < 5; decide) dX23_sees_34 ?_
    refine nd_return hC rfl (by omega) (by omega) dX23_sees_37 (R)
  · refine nd_return hC rfl (by omega) (by omega) dX23_sees_9 ((hk0 hc h2 hq))
theorem cu_seesX32 (hg : nd_OK g) (hd : 1 ≤ d) {Q : nd_H → Prop} {b L m : Nat} {more folds : Int32} {x2 x3 x4 : Value} {v : Bool} {cd : Int64} {cf : Nat → Int64} (hb : h[b]? = some (.inr (nX32, [.int (nI m), .ref 0, x2, x3, x4]))) (hb9 : b ≠ 100) (E : ∀ K, (∀ h2, Q h2 → K (.inl (some (.int (nd_b v)))) h2) → nd_M g mX32_isSo (d - 1) 0 0 [.ref b, .ref L, .int folds] h K) (hQ : ∀ h2, Q h2 → h2[b]? = h[b]? ∧ (∃ tp fkd fat x, cx_O h2 tp fkd fat x) ∧ h2[100]? = some (.inl (1, 28000, .inr (.inl cf)))) (E2 : v = true → ∀ h2 K, Q h2 → K (.inl (some (.long cd))) h2 → nd_M g mX32_code (d - 1) 0 0 [.ref b, .ref L] h2 K) (hm : v = true → m < 28000) (hk0 : v = false → ∀ h2, Q h2 → K (.inl none) h2) (hk1 : v = true → ∀ h2, Q h2 → K (.inl none) ((h2.set 100 (.inl (1, 28000, .inr (.inl (vp_updL cf m cd))))).set b (.inr (nX32, [.int (nI (m + 1)), .ref 0, x2, x3, x4])))) : nd_M g mX23_sees d 0 0 [.ref b, .ref L, .int more, .int folds] h K := by
  refine nd_enter hg (by decide) rfl (Nat.le_of_ble_eq_true rfl) (fun X hC => ?_)
  refine nd_aload_n hC dX23_sees_0 rfl rfl ?_
  refine nd_aload_n hC dX23_sees_1 rfl rfl ?_
  refine nd_iload_n hC dX23_sees_2 rfl ?_
  refine nd_callU (mm2 := mX32_isSo) (As := [_, _]) (mc2 := 0) (ms2 := 0) (d2 := d - 1) (owner := "NapkinDeeds$Unlike") (x := ⟨"NapkinDeeds$Unlike", "isSo", "(LNapkinDeeds$Look;I)Z"⟩) (n := 2) hC rfl (va_cwA 2 hC.hts (lw_U q960 q962 q977 q978 q208 q979) rfl rfl rfl (nd_dec hC q961) ⟨by decide, by decide, by decide +kernel⟩ (nd_roomR (by omega) (by decide))) hb rfl (by decide) (by omega) rfl (by exact Nat.le_of_ble_eq_true rfl) (by omega) (by omega) dX23_sees_3 rfl (E _ (fun h2 hq => ?_))
  obtain ⟨e1, ⟨tp, fkd, fat, x, hO⟩, h100⟩ := hQ h2 hq
  unfold cx_O at hO
  have hb := e1.trans hb
  first | with_reducible refine nd_if_neB hC (tgt := 10) dX23_sees_6 (by decide) (fun hc => ?_) (fun hc => ?_) | with_reducible refine nd_if_neN hC (tgt := 10) (by omega) dX23_sees_6 (by decide) (fun hc => ?_) (fun hc => ?_) | refine nd_if_ne hC (tgt := 10) dX23_sees_6 (by decide) (fun hc => ?_) (fun hc => ?_)
  · have R := hk1 hc h2 hq
    have hm := hm hc
    refine nd_aload_n hC dX23_sees_10 rfl rfl ?_
    refine nd_get (ci := nX32) hC in_X32 rfl hb 1 (by decide) q1075 (fun _ z => z) rfl dX23_sees_11 ?_
    refine nd_getN (ci := nX1) hC in_X1 rfl hO 12 (by decide) q398 (fun _ z => z) rfl dX23_sees_14 ?_
    refine nd_aload_n hC dX23_sees_17 rfl rfl ?_
    refine nd_get (ci := nX32) hC in_X32 rfl hb 0 (by decide) q1074 (fun _ z => z) rfl dX23_sees_18 ?_
    refine nd_aload_n hC dX23_sees_21 rfl rfl ?_
    refine nd_aload_n hC dX23_sees_22 rfl rfl ?_
    refine nd_callU (mm2 := mX32_code) (As := [_]) (mc2 := 0) (ms2 := 0) (d2 := d - 1) (owner := "NapkinDeeds$Unlike") (x := ⟨"NapkinDeeds$Unlike", "code", "(LNapkinDeeds$Look;)J"⟩) (n := 1) hC rfl (va_cwO 1 hC.hts (lw_O q980 q982 q981 q991 q992 q208 q993) rfl rfl rfl q995 ⟨by decide, by decide, by decide +kernel⟩ (nd_roomR (by omega) (by decide))) hb rfl (by decide) (by omega) rfl (by exact Nat.le_of_ble_eq_true rfl) (by omega) (by omega) dX23_sees_23 rfl (E2 hc h2 _ hq ?_)
    refine nd_lastoreN hC h100 (by omega) (by decide) dX23_sees_26 ?_
    have hb : (h2.set 100 (.inl (1, 28000, .inr (.inl (vp_updL cf m cd)))))[b]? = _ := (List.getElem?_set_ne (Ne.symm hb9)).trans hb
    refine nd_aload_n hC dX23_sees_27 rfl rfl ?_
    refine nd_dup hC (by rfl) dX23_sees_28 ?_
    refine nd_get (ci := nX32) hC in_X32 rfl hb 0 (by decide) q1074 (fun _ z => z) rfl dX23_sees_29 ?_
    refine nd_iconst hC (v := nI 1) (by rfl) dX23_sees_32 ?_
    first | with_reducible refine nd_iaddN hC dX23_sees_33 ?_ | refine nd_iadd hC dX23_sees_33 ?_
    refine nd_put (ci := nX32) hC in_X32 rfl hb 0 (by decide) tyX32 tyX32_ok (by decide +kernel) q1074 (fun _ z => z) rfl rfl rfl (by show 0 < 5; decide) dX23_sees_34 ?_
    refine nd_return hC rfl (by omega) (by omega) dX23_sees_37 (R)
  · refine nd_return hC rfl (by omega) (by omega) dX23_sees_9 ((hk0 hc h2 hq))
theorem cu_seesX35 (hg : nd_OK g) (hd : 1 ≤ d) {Q : nd_H → Prop} {b L m : Nat} {more folds : Int32} {x2 x3 x4 : Value} {v : Bool} {cd : Int64} {cf : Nat → Int64} (hb : h[b]? = some (.inr (nX35, [.int (nI m), .ref 0, x2, x3, x4]))) (hb9 : b ≠ 100) (E : ∀ K, (∀ h2, Q h2 → K (.inl (some (.int (nd_b v)))) h2) → nd_M g mX35_isSo (d - 1) 0 0 [.ref b, .ref L, .int folds] h K) (hQ : ∀ h2, Q h2 → h2[b]? = h[b]? ∧ (∃ tp fkd fat x, cx_O h2 tp fkd fat x) ∧ h2[100]? = some (.inl (1, 28000, .inr (.inl cf)))) (E2 : v = true → ∀ h2 K, Q h2 → K (.inl (some (.long cd))) h2 → nd_M g mX35_code (d - 1) 0 0 [.ref b, .ref L] h2 K) (hm : v = true → m < 28000) (hk0 : v = false → ∀ h2, Q h2 → K (.inl none) h2) (hk1 : v = true → ∀ h2, Q h2 → K (.inl none) ((h2.set 100 (.inl (1, 28000, .inr (.inl (vp_updL cf m cd))))).set b (.inr (nX35, [.int (nI (m + 1)), .ref 0, x2, x3, x4])))) : nd_M g mX23_sees d 0 0 [.ref b, .ref L, .int more, .int folds] h K := by
  refine nd_enter hg (by decide) rfl (Nat.le_of_ble_eq_true rfl) (fun X hC => ?_)
  refine nd_aload_n hC dX23_sees_0 rfl rfl ?_
  refine nd_aload_n hC dX23_sees_1 rfl rfl ?_
  refine nd_iload_n hC dX23_sees_2 rfl ?_
  refine nd_callU (mm2 := mX35_isSo) (As := [_, _]) (mc2 := 0) (ms2 := 0) (d2 := d - 1) (owner := "NapkinDeeds$Unlike") (x := ⟨"NapkinDeeds$Unlike", "isSo", "(LNapkinDeeds$Look;I)Z"⟩) (n := 2) hC rfl (va_cwA 2 hC.hts (lw_U q960 q962 q963 q964 q211 q965) rfl rfl rfl (nd_dec hC q961) ⟨by decide, by decide, by decide +kernel⟩ (nd_roomR (by omega) (by decide))) hb rfl (by decide) (by omega) rfl (by exact Nat.le_of_ble_eq_true rfl) (by omega) (by omega) dX23_sees_3 rfl (E _ (fun h2 hq => ?_))
  obtain ⟨e1, ⟨tp, fkd, fat, x, hO⟩, h100⟩ := hQ h2 hq
  unfold cx_O at hO
  have hb := e1.trans hb
  first | with_reducible refine nd_if_neB hC (tgt := 10) dX23_sees_6 (by decide) (fun hc => ?_) (fun hc => ?_) | with_reducible refine nd_if_neN hC (tgt := 10) (by omega) dX23_sees_6 (by decide) (fun hc => ?_) (fun hc => ?_) | refine nd_if_ne hC (tgt := 10) dX23_sees_6 (by decide) (fun hc => ?_) (fun hc => ?_)
  · have R := hk1 hc h2 hq
    have hm := hm hc
    refine nd_aload_n hC dX23_sees_10 rfl rfl ?_
    refine nd_get (ci := nX35) hC in_X35 rfl hb 1 (by decide) q1075 (fun _ z => z) rfl dX23_sees_11 ?_
    refine nd_getN (ci := nX1) hC in_X1 rfl hO 12 (by decide) q398 (fun _ z => z) rfl dX23_sees_14 ?_
    refine nd_aload_n hC dX23_sees_17 rfl rfl ?_
    refine nd_get (ci := nX35) hC in_X35 rfl hb 0 (by decide) q1074 (fun _ z => z) rfl dX23_sees_18 ?_
    refine nd_aload_n hC dX23_sees_21 rfl rfl ?_
    refine nd_aload_n hC dX23_sees_22 rfl rfl ?_
    refine nd_callU (mm2 := mX35_code) (As := [_]) (mc2 := 0) (ms2 := 0) (d2 := d - 1) (owner := "NapkinDeeds$Unlike") (x := ⟨"NapkinDeeds$Unlike", "code", "(LNapkinDeeds$Look;)J"⟩) (n := 1) hC rfl (va_cwO 1 hC.hts (lw_O q980 q982 q981 q983 q984 q211 q985) rfl rfl rfl q995 ⟨by decide, by decide, by decide +kernel⟩ (nd_roomR (by omega) (by decide))) hb rfl (by decide) (by omega) rfl (by exact Nat.le_of_ble_eq_true rfl) (by omega) (by omega) dX23_sees_23 rfl (E2 hc h2 _ hq ?_)
    refine nd_lastoreN hC h100 (by omega) (by decide) dX23_sees_26 ?_
    have hb : (h2.set 100 (.inl (1, 28000, .inr (.inl (vp_updL cf m cd)))))[b]? = _ := (List.getElem?_set_ne (Ne.symm hb9)).trans hb
    refine nd_aload_n hC dX23_sees_27 rfl rfl ?_
    refine nd_dup hC (by rfl) dX23_sees_28 ?_
    refine nd_get (ci := nX35) hC in_X35 rfl hb 0 (by decide) q1074 (fun _ z => z) rfl dX23_sees_29 ?_
    refine nd_iconst hC (v := nI 1) (by rfl) dX23_sees_32 ?_
    first | with_reducible refine nd_iaddN hC dX23_sees_33 ?_ | refine nd_iadd hC dX23_sees_33 ?_
    refine nd_put (ci := nX35) hC in_X35 rfl hb 0 (by decide) tyX35 tyX35_ok (by decide +kernel) q1074 (fun _ z => z) rfl rfl rfl (by show 0 < 5; decide) dX23_sees_34 ?_
    refine nd_return hC rfl (by omega) (by omega) dX23_sees_37 (R)
  · refine nd_return hC rfl (by omega) (by omega) dX23_sees_9 ((hk0 hc h2 hq))
theorem cu_seesX37 (hg : nd_OK g) (hd : 1 ≤ d) {Q : nd_H → Prop} {b L m : Nat} {more folds : Int32} {x2 x3 x4 x5 : Value} {v : Bool} {cd : Int64} {cf : Nat → Int64} (hb : h[b]? = some (.inr (nX37, [.int (nI m), .ref 0, x2, x3, x4, x5]))) (hb9 : b ≠ 100) (E : ∀ K, (∀ h2, Q h2 → K (.inl (some (.int (nd_b v)))) h2) → nd_M g mX37_isSo (d - 1) 0 0 [.ref b, .ref L, .int folds] h K) (hQ : ∀ h2, Q h2 → h2[b]? = h[b]? ∧ (∃ tp fkd fat x, cx_O h2 tp fkd fat x) ∧ h2[100]? = some (.inl (1, 28000, .inr (.inl cf)))) (E2 : v = true → ∀ h2 K, Q h2 → K (.inl (some (.long cd))) h2 → nd_M g mX23_code (d - 1) 0 0 [.ref b, .ref L] h2 K) (hm : v = true → m < 28000) (hk0 : v = false → ∀ h2, Q h2 → K (.inl none) h2) (hk1 : v = true → ∀ h2, Q h2 → K (.inl none) ((h2.set 100 (.inl (1, 28000, .inr (.inl (vp_updL cf m cd))))).set b (.inr (nX37, [.int (nI (m + 1)), .ref 0, x2, x3, x4, x5])))) : nd_M g mX23_sees d 0 0 [.ref b, .ref L, .int more, .int folds] h K := by
  refine nd_enter hg (by decide) rfl (Nat.le_of_ble_eq_true rfl) (fun X hC => ?_)
  refine nd_aload_n hC dX23_sees_0 rfl rfl ?_
  refine nd_aload_n hC dX23_sees_1 rfl rfl ?_
  refine nd_iload_n hC dX23_sees_2 rfl ?_
  refine nd_callU (mm2 := mX37_isSo) (As := [_, _]) (mc2 := 0) (ms2 := 0) (d2 := d - 1) (owner := "NapkinDeeds$Unlike") (x := ⟨"NapkinDeeds$Unlike", "isSo", "(LNapkinDeeds$Look;I)Z"⟩) (n := 2) hC rfl (va_cwA 2 hC.hts (lw_U q960 q962 q966 q967 q213 q968) rfl rfl rfl (nd_dec hC q961) ⟨by decide, by decide, by decide +kernel⟩ (nd_roomR (by omega) (by decide))) hb rfl (by decide) (by omega) rfl (by exact Nat.le_of_ble_eq_true rfl) (by omega) (by omega) dX23_sees_3 rfl (E _ (fun h2 hq => ?_))
  obtain ⟨e1, ⟨tp, fkd, fat, x, hO⟩, h100⟩ := hQ h2 hq
  unfold cx_O at hO
  have hb := e1.trans hb
  first | with_reducible refine nd_if_neB hC (tgt := 10) dX23_sees_6 (by decide) (fun hc => ?_) (fun hc => ?_) | with_reducible refine nd_if_neN hC (tgt := 10) (by omega) dX23_sees_6 (by decide) (fun hc => ?_) (fun hc => ?_) | refine nd_if_ne hC (tgt := 10) dX23_sees_6 (by decide) (fun hc => ?_) (fun hc => ?_)
  · have R := hk1 hc h2 hq
    have hm := hm hc
    refine nd_aload_n hC dX23_sees_10 rfl rfl ?_
    refine nd_get (ci := nX37) hC in_X37 rfl hb 1 (by decide) q1075 (fun _ z => z) rfl dX23_sees_11 ?_
    refine nd_getN (ci := nX1) hC in_X1 rfl hO 12 (by decide) q398 (fun _ z => z) rfl dX23_sees_14 ?_
    refine nd_aload_n hC dX23_sees_17 rfl rfl ?_
    refine nd_get (ci := nX37) hC in_X37 rfl hb 0 (by decide) q1074 (fun _ z => z) rfl dX23_sees_18 ?_
    refine nd_aload_n hC dX23_sees_21 rfl rfl ?_
    refine nd_aload_n hC dX23_sees_22 rfl rfl ?_
    refine nd_callU (mm2 := mX23_code) (As := [_]) (mc2 := 0) (ms2 := 0) (d2 := d - 1) (owner := "NapkinDeeds$Unlike") (x := ⟨"NapkinDeeds$Unlike", "code", "(LNapkinDeeds$Look;)J"⟩) (n := 1) hC rfl (va_cwU 1 hC.hts (lw_U q980 q982 q988 q981 q193 q995) rfl rfl rfl rfl ⟨by decide, by decide, by decide +kernel⟩ (nd_roomR (by omega) (by decide))) hb rfl (by decide) (by omega) rfl (by exact Nat.le_of_ble_eq_true rfl) (by omega) (by omega) dX23_sees_23 rfl (E2 hc h2 _ hq ?_)
    refine nd_lastoreN hC h100 (by omega) (by decide) dX23_sees_26 ?_
    have hb : (h2.set 100 (.inl (1, 28000, .inr (.inl (vp_updL cf m cd)))))[b]? = _ := (List.getElem?_set_ne (Ne.symm hb9)).trans hb
    refine nd_aload_n hC dX23_sees_27 rfl rfl ?_
    refine nd_dup hC (by rfl) dX23_sees_28 ?_
    refine nd_get (ci := nX37) hC in_X37 rfl hb 0 (by decide) q1074 (fun _ z => z) rfl dX23_sees_29 ?_
    refine nd_iconst hC (v := nI 1) (by rfl) dX23_sees_32 ?_
    first | with_reducible refine nd_iaddN hC dX23_sees_33 ?_ | refine nd_iadd hC dX23_sees_33 ?_
    refine nd_put (ci := nX37) hC in_X37 rfl hb 0 (by decide) tyX37 tyX37_ok (by decide +kernel) q1074 (fun _ z => z) rfl rfl rfl (by show 0 < 6; decide) dX23_sees_34 ?_
    refine nd_return hC rfl (by omega) (by omega) dX23_sees_37 (R)
  · refine nd_return hC rfl (by omega) (by omega) dX23_sees_9 ((hk0 hc h2 hq))
theorem cf_seesX27 (hg : nd_OK g) (hd : 1 ≤ d) {Q : nd_H → Prop} {b L : Nat} {more folds : Int32} {fs : List Value} {v : Bool} (hb : h[b]? = some (.inr (nX27, fs))) (E : ∀ K, (∀ h2, Q h2 → K (.inl (some (.int (nd_b v)))) h2) → nd_M g mX27_isSo (d - 1) 0 0 [.ref b, .ref L, .int folds] h K) (hQ : ∀ h2, Q h2 → h2[b]? = h[b]?) (hk0 : v = false → ∀ h2, Q h2 → K (.inl none) h2) (hk1 : v = true → ∀ h2 K2, Q h2 → (∀ h3, K (.inl none) h3 → K2 (.inl none) h3) → nd_M g mX25_sees (d - 1) 0 0 [.ref b, .ref L, .int more, .int folds] h2 K2) : nd_M g mX26_sees d 0 0 [.ref b, .ref L, .int more, .int folds] h K := by
  refine nd_enter hg (by decide) rfl (Nat.le_of_ble_eq_true rfl) (fun X hC => ?_)
  refine nd_aload_n hC dX26_sees_0 rfl rfl ?_
  refine nd_aload_n hC dX26_sees_1 rfl rfl ?_
  refine nd_iload_n hC dX26_sees_2 rfl ?_
  refine nd_callU (mm2 := mX27_isSo) (As := [_, _]) (mc2 := 0) (ms2 := 0) (d2 := d - 1) (owner := "NapkinDeeds$Fewest") (x := ⟨"NapkinDeeds$Fewest", "isSo", "(LNapkinDeeds$Look;I)Z"⟩) (n := 2) hC rfl (va_cwA 2 hC.hts (lw_U q869 q871 q877 q878 q203 q879) rfl rfl rfl (nd_dec hC q870) ⟨by decide, by decide, by decide +kernel⟩ (nd_roomR (by omega) (by decide))) hb rfl (by decide) (by omega) rfl (by exact Nat.le_of_ble_eq_true rfl) (by omega) (by omega) dX26_sees_3 rfl (E _ (fun h2 hq => ?_))
  have hb2 := (hQ h2 hq).trans hb
  first | with_reducible refine nd_if_eqB hC (tgt := 16) dX26_sees_6 (by decide) (fun hc => ?_) (fun hc => ?_) | with_reducible refine nd_if_eqN hC (tgt := 16) (by omega) dX26_sees_6 (by decide) (fun hc => ?_) (fun hc => ?_) | refine nd_if_eq hC (tgt := 16) dX26_sees_6 (by decide) (fun hc => ?_) (fun hc => ?_)
  · refine nd_return hC rfl (by omega) (by omega) dX26_sees_16 ((hk0 hc h2 hq))
  · refine nd_aload_n hC dX26_sees_9 rfl rfl ?_
    refine nd_aload_n hC dX26_sees_10 rfl rfl ?_
    refine nd_iload_n hC dX26_sees_11 rfl ?_
    refine nd_iload_n hC dX26_sees_12 rfl ?_
    refine nd_callSU (mm2 := mX25_sees) (ci := nX27) (As := [_, _, _]) (mc2 := 0) (ms2 := 0) (d2 := d - 1) (n := 3) hC rfl (lw_SU q904 q3486 q905 q906 q201 q907) ⟨by decide, by decide +kernel⟩ hb2 rfl (by decide) (by omega) rfl (by exact Nat.le_of_ble_eq_true rfl) (by omega) (by omega) dX26_sees_13 rfl (hk1 hc h2 _ hq (fun h3 k3 => ?_))
    refine nd_return hC rfl (by omega) (by omega) dX26_sees_16 (k3)
theorem cf_seesX30 (hg : nd_OK g) (hd : 1 ≤ d) {Q : nd_H → Prop} {b L : Nat} {more folds : Int32} {fs : List Value} {v : Bool} (hb : h[b]? = some (.inr (nX30, fs))) (E : ∀ K, (∀ h2, Q h2 → K (.inl (some (.int (nd_b v)))) h2) → nd_M g mX30_isSo (d - 1) 0 0 [.ref b, .ref L, .int folds] h K) (hQ : ∀ h2, Q h2 → h2[b]? = h[b]?) (hk0 : v = false → ∀ h2, Q h2 → K (.inl none) h2) (hk1 : v = true → ∀ h2 K2, Q h2 → (∀ h3, K (.inl none) h3 → K2 (.inl none) h3) → nd_M g mX25_sees (d - 1) 0 0 [.ref b, .ref L, .int more, .int folds] h2 K2) : nd_M g mX26_sees d 0 0 [.ref b, .ref L, .int more, .int folds] h K := by
  refine nd_enter hg (by decide) rfl (Nat.le_of_ble_eq_true rfl) (fun X hC => ?_)
  refine nd_aload_n hC dX26_sees_0 rfl rfl ?_
  refine nd_aload_n hC dX26_sees_1 rfl rfl ?_
  refine nd_iload_n hC dX26_sees_2 rfl ?_
  refine nd_callU (mm2 := mX30_isSo) (As := [_, _]) (mc2 := 0) (ms2 := 0) (d2 := d - 1) (owner := "NapkinDeeds$Fewest") (x := ⟨"NapkinDeeds$Fewest", "isSo", "(LNapkinDeeds$Look;I)Z"⟩) (n := 2) hC rfl (va_cwA 2 hC.hts (lw_U q869 q871 q881 q882 q206 q883) rfl rfl rfl (nd_dec hC q870) ⟨by decide, by decide, by decide +kernel⟩ (nd_roomR (by omega) (by decide))) hb rfl (by decide) (by omega) rfl (by exact Nat.le_of_ble_eq_true rfl) (by omega) (by omega) dX26_sees_3 rfl (E _ (fun h2 hq => ?_))
  have hb2 := (hQ h2 hq).trans hb
  first | with_reducible refine nd_if_eqB hC (tgt := 16) dX26_sees_6 (by decide) (fun hc => ?_) (fun hc => ?_) | with_reducible refine nd_if_eqN hC (tgt := 16) (by omega) dX26_sees_6 (by decide) (fun hc => ?_) (fun hc => ?_) | refine nd_if_eq hC (tgt := 16) dX26_sees_6 (by decide) (fun hc => ?_) (fun hc => ?_)
  · refine nd_return hC rfl (by omega) (by omega) dX26_sees_16 ((hk0 hc h2 hq))
  · refine nd_aload_n hC dX26_sees_9 rfl rfl ?_
    refine nd_aload_n hC dX26_sees_10 rfl rfl ?_
    refine nd_iload_n hC dX26_sees_11 rfl ?_
    refine nd_iload_n hC dX26_sees_12 rfl ?_
    refine nd_callSU (mm2 := mX25_sees) (ci := nX30) (As := [_, _, _]) (mc2 := 0) (ms2 := 0) (d2 := d - 1) (n := 3) hC rfl (lw_SU q904 q3486 q905 q906 q201 q907) ⟨by decide, by decide +kernel⟩ hb2 rfl (by decide) (by omega) rfl (by exact Nat.le_of_ble_eq_true rfl) (by omega) (by omega) dX26_sees_13 rfl (hk1 hc h2 _ hq (fun h3 k3 => ?_))
    refine nd_return hC rfl (by omega) (by omega) dX26_sees_16 (k3)
theorem cf_seesX31 (hg : nd_OK g) (hd : 1 ≤ d) {Q : nd_H → Prop} {b L : Nat} {more folds : Int32} {fs : List Value} {v : Bool} (hb : h[b]? = some (.inr (nX31, fs))) (E : ∀ K, (∀ h2, Q h2 → K (.inl (some (.int (nd_b v)))) h2) → nd_M g mX31_isSo (d - 1) 0 0 [.ref b, .ref L, .int folds] h K) (hQ : ∀ h2, Q h2 → h2[b]? = h[b]?) (hk0 : v = false → ∀ h2, Q h2 → K (.inl none) h2) (hk1 : v = true → ∀ h2 K2, Q h2 → (∀ h3, K (.inl none) h3 → K2 (.inl none) h3) → nd_M g mX25_sees (d - 1) 0 0 [.ref b, .ref L, .int more, .int folds] h2 K2) : nd_M g mX26_sees d 0 0 [.ref b, .ref L, .int more, .int folds] h K := by
  refine nd_enter hg (by decide) rfl (Nat.le_of_ble_eq_true rfl) (fun X hC => ?_)
  refine nd_aload_n hC dX26_sees_0 rfl rfl ?_
  refine nd_aload_n hC dX26_sees_1 rfl rfl ?_
  refine nd_iload_n hC dX26_sees_2 rfl ?_
  refine nd_callU (mm2 := mX31_isSo) (As := [_, _]) (mc2 := 0) (ms2 := 0) (d2 := d - 1) (owner := "NapkinDeeds$Fewest") (x := ⟨"NapkinDeeds$Fewest", "isSo", "(LNapkinDeeds$Look;I)Z"⟩) (n := 2) hC rfl (va_cwA 2 hC.hts (lw_U q869 q871 q901 q902 q207 q903) rfl rfl rfl (nd_dec hC q870) ⟨by decide, by decide, by decide +kernel⟩ (nd_roomR (by omega) (by decide))) hb rfl (by decide) (by omega) rfl (by exact Nat.le_of_ble_eq_true rfl) (by omega) (by omega) dX26_sees_3 rfl (E _ (fun h2 hq => ?_))
  have hb2 := (hQ h2 hq).trans hb
  first | with_reducible refine nd_if_eqB hC (tgt := 16) dX26_sees_6 (by decide) (fun hc => ?_) (fun hc => ?_) | with_reducible refine nd_if_eqN hC (tgt := 16) (by omega) dX26_sees_6 (by decide) (fun hc => ?_) (fun hc => ?_) | refine nd_if_eq hC (tgt := 16) dX26_sees_6 (by decide) (fun hc => ?_) (fun hc => ?_)
  · refine nd_return hC rfl (by omega) (by omega) dX26_sees_16 ((hk0 hc h2 hq))
  · refine nd_aload_n hC dX26_sees_9 rfl rfl ?_
    refine nd_aload_n hC dX26_sees_10 rfl rfl ?_
    refine nd_iload_n hC dX26_sees_11 rfl ?_
    refine nd_iload_n hC dX26_sees_12 rfl ?_
    refine nd_callSU (mm2 := mX25_sees) (ci := nX31) (As := [_, _, _]) (mc2 := 0) (ms2 := 0) (d2 := d - 1) (n := 3) hC rfl (lw_SU q904 q3486 q905 q906 q201 q907) ⟨by decide, by decide +kernel⟩ hb2 rfl (by decide) (by omega) rfl (by exact Nat.le_of_ble_eq_true rfl) (by omega) (by omega) dX26_sees_13 rfl (hk1 hc h2 _ hq (fun h3 k3 => ?_))
    refine nd_return hC rfl (by omega) (by omega) dX26_sees_16 (k3)
theorem cf_seesX34 (hg : nd_OK g) (hd : 1 ≤ d) {Q : nd_H → Prop} {b L : Nat} {more folds : Int32} {fs : List Value} {v : Bool} (hb : h[b]? = some (.inr (nX34, fs))) (E : ∀ K, (∀ h2, Q h2 → K (.inl (some (.int (nd_b v)))) h2) → nd_M g mX34_isSo (d - 1) 0 0 [.ref b, .ref L, .int folds] h K) (hQ : ∀ h2, Q h2 → h2[b]? = h[b]?) (hk0 : v = false → ∀ h2, Q h2 → K (.inl none) h2) (hk1 : v = true → ∀ h2 K2, Q h2 → (∀ h3, K (.inl none) h3 → K2 (.inl none) h3) → nd_M g mX25_sees (d - 1) 0 0 [.ref b, .ref L, .int more, .int folds] h2 K2) : nd_M g mX26_sees d 0 0 [.ref b, .ref L, .int more, .int folds] h K := by
  refine nd_enter hg (by decide) rfl (Nat.le_of_ble_eq_true rfl) (fun X hC => ?_)
  refine nd_aload_n hC dX26_sees_0 rfl rfl ?_
  refine nd_aload_n hC dX26_sees_1 rfl rfl ?_
  refine nd_iload_n hC dX26_sees_2 rfl ?_
  refine nd_callU (mm2 := mX34_isSo) (As := [_, _]) (mc2 := 0) (ms2 := 0) (d2 := d - 1) (owner := "NapkinDeeds$Fewest") (x := ⟨"NapkinDeeds$Fewest", "isSo", "(LNapkinDeeds$Look;I)Z"⟩) (n := 2) hC rfl (va_cwA 2 hC.hts (lw_U q869 q871 q872 q873 q210 q874) rfl rfl rfl (nd_dec hC q870) ⟨by decide, by decide, by decide +kernel⟩ (nd_roomR (by omega) (by decide))) hb rfl (by decide) (by omega) rfl (by exact Nat.le_of_ble_eq_true rfl) (by omega) (by omega) dX26_sees_3 rfl (E _ (fun h2 hq => ?_))
  have hb2 := (hQ h2 hq).trans hb
  first | with_reducible refine nd_if_eqB hC (tgt := 16) dX26_sees_6 (by decide) (fun hc => ?_) (fun hc => ?_) | with_reducible refine nd_if_eqN hC (tgt := 16) (by omega) dX26_sees_6 (by decide) (fun hc => ?_) (fun hc => ?_) | refine nd_if_eq hC (tgt := 16) dX26_sees_6 (by decide) (fun hc => ?_) (fun hc => ?_)
  · refine nd_return hC rfl (by omega) (by omega) dX26_sees_16 ((hk0 hc h2 hq))
  · refine nd_aload_n hC dX26_sees_9 rfl rfl ?_
    refine nd_aload_n hC dX26_sees_10 rfl rfl ?_
    refine nd_iload_n hC dX26_sees_11 rfl ?_
    refine nd_iload_n hC dX26_sees_12 rfl ?_
    refine nd_callSU (mm2 := mX25_sees) (ci := nX34) (As := [_, _, _]) (mc2 := 0) (ms2 := 0) (d2 := d - 1) (n := 3) hC rfl (lw_SU q904 q3486 q905 q906 q201 q907) ⟨by decide, by decide +kernel⟩ hb2 rfl (by decide) (by omega) rfl (by exact Nat.le_of_ble_eq_true rfl) (by omega) (by omega) dX26_sees_13 rfl (hk1 hc h2 _ hq (fun h3 k3 => ?_))
    refine nd_return hC rfl (by omega) (by omega) dX26_sees_16 (k3)
end SE84

