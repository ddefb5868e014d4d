set_option maxRecDepth 100000
/-! ===== the law: its body ===== -/
section LB94
variable {g : nd_G} {d : Nat} {K : nd_K} {X : nd_X} {L : Nat} {xs : Nat → Int32}
theorem lw_body (hg : nd_OK g) (hd : 1100 ≤ d) (hC : nd_Cx g mL_law X) (hx : sc_X g L xs) (hL : L ≤ 384) (hk : ∀ h2, K (.inl (some (.int (nI 1)))) h2) : nd_W g mL_law d 603072 7186538 K X 0 [some (nd_f 300), none, none, none, none, none, none, none] [] [] 0 0 := by
  refine nd_new (ci := nX1) hC [.null, .null, .null, .null, .null, .null, .int 0, .int 0, .int 0, .null, .null, .int 0, .null] in_X1 rfl tyX1 tyX1_ok q219 q220 q149 rfl rfl (by omega) (by omega) dL_law_0 ?_
  refine nd_dup hC (by rfl) dL_law_3 ?_
  refine nd_callI (mm2 := mX1_init) (As := []) (mc2 := 100) (ms2 := 30000) (d2 := d - 1) hC rfl rfl q223 q149 q221 q222 rfl lmX1_init (Nat.le_of_ble_eq_true rfl) (by omega) rfl (by exact Nat.le_of_ble_eq_true rfl) (by omega) (by omega) dL_law_4 rfl ((ni_X1 hg (by omega) rfl rfl (fun h2 l2 I2 => ?_)))
  refine nd_astore_n hC dL_law_7 (Nat.le_of_ble_eq_true rfl) rfl ?_
  refine nd_new (ci := nX7) hC [.null, .null, .null, .null, .int 0, .null, .int 0, .int 0, .int 0, .int 0, .int 0, .int 0, .int 0, .int 0, .int 0, .int 0, .int 0, .int 0, .int 0, .null, .null, .null, .null, .null, .int 0, .null, .null, .null, .int 0, .int 0, .int 0, .int 0, .int 0, .int 0, .int 0, .null, .null, .int 0, .null, .null, .null, .null, .null] in_X7 rfl tyX7 tyX7_ok q2709 q2710 q158 rfl rfl (by omega) (by omega) dL_law_8 ?_
  rw [l2]
  refine nd_dup hC (by rfl) dL_law_11 ?_
  refine nd_callI (mm2 := mX7_init) (As := []) (mc2 := 20) (ms2 := 147852) (d2 := d - 1) hC rfl rfl q2713 q158 q2711 q2712 rfl lmX7_init (Nat.le_of_ble_eq_true rfl) (by omega) rfl (by exact Nat.le_of_ble_eq_true rfl) (by omega) (by omega) dL_law_12 rfl ((ni_X7 hg (by rw [List.length_append, l2]; rfl) (by rw [← l2]; exact l_at_last) (fun h3 A F B l3 f3 W3 M3 => ?_)))
  refine nd_astore_n hC dL_law_15 (Nat.le_of_ble_eq_true rfl) rfl ?_
  refine nd_iconst hC (v := nI 1) (by rfl) dL_law_16 ?_
  refine nd_newarray hC (atype := .long) (ty := 1) .long (.inr (.inl (fun _ => 0))) q427 rfl rfl (fun _ _ => rfl) (N := 1) rfl (by decide) (by decide) (by omega) (by omega) dL_law_17 ?_
  rw [l3]
  refine nd_astore_n hC dL_law_19 (Nat.le_of_ble_eq_true rfl) rfl ?_
  refine nd_iconst hC (v := nI 0) (by rfl) dL_law_20 ?_
  refine nd_istore hC dL_law_21 (Nat.le_of_ble_eq_true rfl) ?_
  have f23 : ∀ a c, h2[a]? = some c → h3[a]? = some c := fun a c e => by
    have := nd_get_lt e
    exact (f3 a (by omega)).trans ((List.getElem?_append_left (by omega)).trans e)
  have I3 : cw_I sy_0 h3 := by
    obtain ⟨hs, o, nap, ds, gi, dss, hK⟩ := I2
    exact ⟨hs.kp (fun a ha => (f3 a (by unfold cw_sc at ha; omega)).trans (List.getElem?_append_left (by unfold cw_sc at ha; omega))), o, nap, ds, gi, dss, hK.f ⟨by omega, fun a c e _ => f23 a c e⟩⟩
  have l4 : (h3 ++ [(.inl (1, 1, .inr (.inl (fun _ => 0))) : nd_C)]).length = 123 := by rw [List.length_append, l3]; rfl
  have HI : lw_I 0 sy_0 (h3 ++ [(.inl (1, 1, .inr (.inl (fun _ => 0))) : nd_C)]) := ⟨sy_0_ok, I3.app, by rw [l4]; omega, ⟨_, by rw [← l3]; exact l_at_last⟩, A, F, B, M3, W3.re (fun a z1 z2 => List.getElem?_append_left (by omega))⟩
  exact nd_widen (by omega) (by omega) (lw_loop hg hd hC hx hL hk (c0 := 130000) (s0 := 200000) (by omega) (by omega) 65 0 sy_0 _ (by omega) (by omega) HI)
end LB94

