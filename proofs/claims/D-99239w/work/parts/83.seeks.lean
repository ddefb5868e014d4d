set_option maxRecDepth 100000
/-! ===== Rows.seeks ===== -/
def cr_l0 (N : nk_N) (s : sv) (fl : Bool) : List (List Nat) := if fl then lk_flat (nk_n N) else lk_run (lk_flat (nk_n N)) s.1
def cr_fo (s : sv) (fl : Bool) : Nat := if fl then 0 else s.1.length
theorem ro_at.fr {h h2 : nd_H} {b ci rb : Nat} (hr : ro_at h b ci rb) (e : h2[b]? = h[b]?) : ro_at h2 b ci rb := by
  obtain ⟨k, fs, a1, a2, a3⟩ := hr
  exact ⟨k, fs, a1, e.trans a2, a3⟩
section SK83
variable {g : nd_G} {K : nd_K} {h : nd_H}
theorem cr_seeks (hg : nd_OK g) {d d0 b ci rb nap most : Nat} {o : Nat → Nat} {N : nk_N} {sv0 : sv} {fl : Bool} {σ : Type} {see : σ → lv_E → σ} {Bd : σ → Prop} {Iv : σ → nd_H → Prop} {s0 : σ} (hd : d0 + most + 2 ≤ d) (hd0 : 4 ≤ d0) (hm : most ≤ 5) (hro : ro_at h b ci rb) (hb : b < 18 ∨ 90 ≤ b) (hrb : ∃ f, h[rb]? = some (.inl (0, 5, .inl f))) (hrb2 : rb < 18 ∨ 90 ≤ rb) (hP : cw_P o h nap N sv0) (hN6 : nk_n N ≤ 6) (hv : lk_val (lk_flat (nk_n N)) sv0.1)
    (hS : ∀ d, d0 ≤ d → go_see g d (nk_n N) (cr_fo sv0 fl) b rb σ see Bd Iv) (hI : go_iv b ci rb σ Iv) (hI2 : go_sb rb σ Iv) (hI0 : ∀ h2, ck_fr 18 72 h h2 → cw_P o h2 nap N sv0 → Iv s0 h2) (hB : df_B see Bd s0 (df most [] (cr_l0 N sv0 fl)))
    (hk : ∀ h2, Iv ((df most [] (cr_l0 N sv0 fl)).foldl see s0) h2 → h2.length = h.length → K (.inl (some (.ref b))) h2) : nd_M g mX20_seeks d 0 0 [.ref b, .int (nd_b fl), .int (nI most)] h K := by
  obtain ⟨⟨tp, fkd, fat, x, hO⟩, h17, hany, hS0, hN, -, a8⟩ := id hP
  obtain ⟨fr, bk, fo9, mn, hS1, hcv⟩ := id hS0
  unfold cx_O at hO
  have hl5 := lk_val_le hN6 hv
  refine nd_enter hg (by decide) rfl (Nat.le_of_ble_eq_true rfl) (fun X hC => ?_)
  have J : ∀ h2, ck_fr 18 72 h h2 → ck_lk h2 18 (cr_l0 N sv0 fl) → cw_P o h2 nap N sv0 → nd_W g mX20_seeks d 0 0 K X 45 [some (.ref b), some (.int (nd_b fl)), some (.int (nI most)), none] [.ref 18] h2 0 0 := by
    intro h2 f2 hl2 hP2
    obtain ⟨⟨tp, fkd, fat, x, hO⟩, h17, hany, hS0, hN, -, -⟩ := id hP2
    obtain ⟨fr, bk, fo9, mn, hS1, hcv⟩ := id hS0
    have hSa := hS1.1
    unfold cx_O at hO
    have hro2 : ro_at h2 b ci rb := hro.fr (f2.2 b (by omega))
    have hok2 : lk_ok (nk_n N) (cr_l0 N sv0 fl) := by
      unfold cr_l0
      split
      · exact lk_flat_ok _
      · exact lk_run_ok _ (lk_flat_ok _) hv
    have hM : ∀ K2, (∀ h3, Iv ((df most [] (cr_l0 N sv0 fl)).foldl see s0) h3 → h3.length = h2.length → K2 (.inl none) h3) → nd_M g mX20_goes (d - 1) 0 0 [.ref b, .ref 18, .int (nI 0), .int (nI (cr_fo sv0 fl)), .int (nI most)] h2 K2 := by
      intro K2 hk2
      have M := cr_goes hg (fo := cr_fo sv0 fl) (d0 := d0) (b := b) (ci := ci) (rb := rb) hN6 (by unfold cr_fo; split <;> omega) (by omega) hS hI hI2 most (d - 1) s0 [] (cr_l0 N sv0 fl) h2 K2 (by omega) hB (hI0 h2 f2 hP2) hl2 hok2 (by
        obtain ⟨f, ef⟩ := hrb
        exact ⟨f, (f2.2 rb (by omega)).trans ef, fun i hi => absurd hi (Nat.not_lt_zero _)⟩) (by simp; omega) (fun h3 i3 f3 => hk2 h3 i3 f3.1)
      simp only [List.length_nil, Nat.mul_zero, Nat.add_zero, Nat.zero_add] at M
      exact M
    refine nd_astore_n hC dX20_seeks_45 (Nat.le_of_ble_eq_true rfl) rfl ?_
    refine nd_aload_n hC dX20_seeks_46 rfl rfl ?_
    refine nd_aload_n hC dX20_seeks_47 rfl rfl ?_
    refine nd_iconst hC (v := nI 0) (by rfl) dX20_seeks_48 ?_
    refine nd_iload_n hC dX20_seeks_49 rfl ?_
    first | with_reducible refine nd_if_eqB hC (tgt := 57) dX20_seeks_50 (by decide) (fun hc => ?_) (fun hc => ?_) | with_reducible refine nd_if_eqN hC (tgt := 57) (by omega) dX20_seeks_50 (by decide) (fun hc => ?_) (fun hc => ?_) | refine nd_if_eq hC (tgt := 57) dX20_seeks_50 (by decide) (fun hc => ?_) (fun hc => ?_)
    · rw [hc] at hM hk
      refine nd_aload_n hC dX20_seeks_57 rfl rfl ?_
      refine ro_this hC rfl hro2 dX20_seeks_58 ?_
      refine nd_getN (ci := nX1) hC in_X1 rfl hO 0 (by decide) q383 (fun _ z => z) rfl dX20_seeks_61 ?_
      refine nd_getN (ci := nX2) hC in_X2 rfl hSa 4 (by decide) q309 (fun _ z => z) rfl dX20_seeks_64 ?_
      refine nd_iload_n hC dX20_seeks_67 rfl ?_
      rw [hcv.1]
      refine ro_callG hC rfl hro2 (by omega) (by exact Nat.le_of_ble_eq_true rfl) (by omega) (by omega) dX20_seeks_68 (hM _ (fun h3 i3 e3 => ?_))
      refine nd_aload_n hC dX20_seeks_71 rfl rfl ?_
      refine nd_areturn hC rfl (by first | exact Or.inl ⟨_, rfl⟩ | exact Or.inr ⟨_, rfl⟩) (by rfl) (by omega) (by omega) dX20_seeks_72 ((hk h3 i3 (e3.trans f2.1)))
    · rw [hc] at hM hk
      refine nd_iconst hC (v := nI 0) (by rfl) dX20_seeks_53 ?_
      refine nd_goto hC (tgt := 67) dX20_seeks_54 (by decide) ?_
      refine nd_iload_n hC dX20_seeks_67 rfl ?_
      refine ro_callG hC rfl hro2 (by omega) (by exact Nat.le_of_ble_eq_true rfl) (by omega) (by omega) dX20_seeks_68 (hM _ (fun h3 i3 e3 => ?_))
      refine nd_aload_n hC dX20_seeks_71 rfl rfl ?_
      refine nd_areturn hC rfl (by first | exact Or.inl ⟨_, rfl⟩ | exact Or.inr ⟨_, rfl⟩) (by rfl) (by omega) (by omega) dX20_seeks_72 ((hk h3 i3 (e3.trans f2.1)))
  have hk8 : ∀ h2, ck_fr 18 9 h h2 → ck_any h2 18 → ∀ k, k < 8 → ck_any h2 (18 + 9 * k) := fun h2 f2 a2 k hk => by
    by_cases e : k = 0
    · subst e; exact a2
    · exact (hany k hk).fr f2 (by omega)
  refine nd_iload_n hC dX20_seeks_0 rfl ?_
  first | with_reducible refine nd_if_eqB hC (tgt := 26) dX20_seeks_1 (by decide) (fun hc => ?_) (fun hc => ?_) | with_reducible refine nd_if_eqN hC (tgt := 26) (by omega) dX20_seeks_1 (by decide) (fun hc => ?_) (fun hc => ?_) | refine nd_if_eq hC (tgt := 26) dX20_seeks_1 (by decide) (fun hc => ?_) (fun hc => ?_)
  · have e0 : cr_l0 N sv0 fl = lk_run (lk_flat (nk_n N)) sv0.1 := by rw [hc]; rfl
    refine nd_aload_n hC dX20_seeks_26 rfl rfl ?_
    refine ro_this hC rfl hro dX20_seeks_27 ?_
    refine nd_getN (ci := nX1) hC in_X1 rfl hO 2 (by decide) q386 (fun _ z => z) rfl dX20_seeks_30 ?_
    refine nd_iconst hC (v := nI 0) (by rfl) dX20_seeks_33 ?_
    refine nd_aaloadN hC rfl rfl h17 (by omega) (by omega) dX20_seeks_34 ?_
    refine nd_aload_n hC dX20_seeks_35 rfl rfl ?_
    refine ro_this hC rfl hro dX20_seeks_36 ?_
    refine nd_callVN (mm2 := mX1_now) (As := []) (mc2 := 0) (ms2 := 0) (d2 := d - 1) hC rfl q447 q149 q820 q446 qs1 lmX1_now (hO) rfl (Nat.le_of_ble_eq_true rfl) (by omega) rfl (by exact Nat.le_of_ble_eq_true rfl) (by omega) (by omega) dX20_seeks_39 rfl ((cx_now hg (by omega) hP hN6 hv (fun h2 R hR f2 hl2 hP2 => ?_)))
    have hany2 := hP2.2.2.1
    obtain ⟨w0, hi0, co0, hL0⟩ := id (hany2 0 (by omega))
    refine nd_callV (mm2 := mX4_become) (As := [_]) (mc2 := 0) (ms2 := 0) (d2 := d - 1) hC rfl lkX20_37 ⟨rfl, lmX4_become⟩ (hL0.1) rfl (Nat.le_of_ble_eq_true rfl) (by omega) rfl (by exact Nat.le_of_ble_eq_true rfl) (by omega) (by omega) dX20_seeks_42 rfl ((cl_become hg (hany2 0 (by omega)) hl2 (by omega) (lk_run_ok _ (lk_flat_ok _) hv) hN6 (fun h3 f3 hl3 => ?_)))
    have F : ck_fr 18 72 h h3 := (f2.sub (by omega) (by omega)).trans (f3.sub (by omega) (by omega))
    refine J h3 F (by rw [e0]; exact hl3) (hP2.lk f3 (by omega) (by omega) (fun k hk => ?_))
    by_cases e : k = 0
    · subst e; exact hl3.any
    · exact (hany2 k hk).fr f3 (by omega)
  · have e0 : cr_l0 N sv0 fl = lk_flat (nk_n N) := by rw [hc]; rfl
    refine nd_aload_n hC dX20_seeks_4 rfl rfl ?_
    refine ro_this hC rfl hro dX20_seeks_5 ?_
    refine nd_getN (ci := nX1) hC in_X1 rfl hO 2 (by decide) q386 (fun _ z => z) rfl dX20_seeks_8 ?_
    refine nd_iconst hC (v := nI 0) (by rfl) dX20_seeks_11 ?_
    refine nd_aaloadN hC rfl rfl h17 (by omega) (by omega) dX20_seeks_12 ?_
    refine nd_aload_n hC dX20_seeks_13 rfl rfl ?_
    refine ro_this hC rfl hro dX20_seeks_14 ?_
    refine nd_callVN (mm2 := mX1_cells) (As := []) (mc2 := 0) (ms2 := 0) (d2 := d - 1) hC rfl q817 q149 q814 q816 qs16 lmX1_cells (hO) rfl (Nat.le_of_ble_eq_true rfl) (by omega) rfl (by exact Nat.le_of_ble_eq_true rfl) (by omega) (by omega) dX20_seeks_17 rfl ((cx_cells hg (by omega) hP ?_))
    obtain ⟨w0, hi0, co0, hL0⟩ := id (hany 0 (by omega))
    refine nd_callV (mm2 := mX4_flat) (As := [_]) (mc2 := 0) (ms2 := 0) (d2 := d - 1) hC rfl lkX20_27 ⟨rfl, lmX4_flat⟩ (hL0.1) rfl (Nat.le_of_ble_eq_true rfl) (by omega) rfl (by exact Nat.le_of_ble_eq_true rfl) (by omega) (by omega) dX20_seeks_20 rfl ((cl_flat hg (hany 0 (by omega)) hN6 (fun h3 f3 hl3 => ?_)))
    refine nd_goto hC (tgt := 45) dX20_seeks_23 (by decide) ?_
    exact J h3 (f3.sub (by omega) (by omega)) (by rw [e0]; exact hl3) (hP.lk f3 (by omega) (by omega) (hk8 h3 f3 hl3.any))
end SK83

