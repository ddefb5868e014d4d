set_option maxRecDepth 100000
/-! ===== constructors: Look, Case, Tray ===== -/
section IN994
variable {g : nd_G} {mm : nd_Mt} {d mc ms : Nat} {K : nd_K} {X : nd_X} {pc : Nat} {lv : List (Option Value)} {st : List Value} {h : nd_H} {cs ss b : Nat}
theorem ni_X6 (hg : nd_OK g) (hk : K (.inl none) h) : nd_M g mX6_init d 0 0 [.ref b] h K := by
  refine nd_enter hg (by decide) rfl (Nat.le_of_ble_eq_true rfl) (fun X hC => ?_)
  refine nd_aload_n hC dX6_init_0 rfl rfl ?_
  refine nd_objInit hC q375 q225 q226 (by exact Nat.le_of_ble_eq_true rfl) dX6_init_1 ?_
  refine nd_return hC rfl (by omega) (by omega) dX6_init_4 (hk)
theorem ni_X5 (hg : nd_OK g) (hL : h.length = b + 1) (hb : h[b]? = some (.inr (nX5, [.null]))) (hk : ∀ h2, gw b 1 h h2 → h2[b]? = some (.inr (nX5, [.ref (b + 1)])) → h2[b + 1]? = some (.inl (0, 8, .inl (fun _ => 0))) → K (.inl none) h2) : nd_M g mX5_init d 1 8 [.ref b] h K := by
  refine nd_enter hg (by decide) rfl (Nat.le_of_ble_eq_true rfl) (fun X hC => ?_)
  refine nd_aload_n hC dX5_init_0 rfl rfl ?_
  refine nd_objInit hC q361 q225 q226 (by exact Nat.le_of_ble_eq_true rfl) dX5_init_1 ?_
  refine nd_aload_n hC dX5_init_4 rfl rfl ?_
  refine nd_bipush hC (v := nI 8) (by rfl) dX5_init_5 ?_
  refine nd_newarray hC (atype := .int) (ty := 0) .int (.inl (fun _ => 0)) q322 rfl rfl (fun _ _ => rfl) (N := 8) rfl (by decide) (by decide) (by omega) (by omega) dX5_init_7 ?_
  have hb1 : (h ++ [(.inl (0, 8, .inl (fun _ => 0)) : nd_C)])[b]? = some (.inr (nX5, [.null])) := (List.getElem?_append_left (by omega)).trans hb
  refine nd_putF (ci := nX5) hC in_X5 rfl hb1 0 (by decide) tyX5 tyX5_ok (by decide +kernel) q362 (fun _ z => z) rfl rfl rfl rfl rfl (by show 0 < 1; decide) dX5_init_9 ?_
  have R := hk ((h ++ [(.inl (0, 8, .inl (fun _ => 0)) : nd_C)]).set b (.inr (nX5, [.ref h.length]))) ⟨by rw [List.length_set, List.length_append]; rfl, fun c z1 z2 => by rw [List.getElem?_set_ne (Ne.symm z1)]; exact List.getElem?_append_left z2⟩ (by rw [hL]; exact List.getElem?_set_self (by rw [List.length_append]; omega)) (by rw [List.getElem?_set_ne (by omega), ← hL]; exact l_at_last)
  refine nd_return hC rfl (by omega) (by omega) dX5_init_12 (R)
theorem ni_X4 (hg : nd_OK g) (hL : h.length = b + 1) (hb : h[b]? = some (.inr (nX4, [.null, .null, .int 0]))) (hk : ∀ h2, gw b 8 h h2 → cw_L h2 b (nI 0) (fun _ => 0) (fun _ _ => 0) → K (.inl none) h2) : nd_M g mX4_init d 8 48 [.ref b] h K := by
  refine nd_enter hg (by decide) rfl (Nat.le_of_ble_eq_true rfl) (fun X hC => ?_)
  refine nd_aload_n hC dX4_init_0 rfl rfl ?_
  refine nd_objInit hC q329 q225 q226 (by exact Nat.le_of_ble_eq_true rfl) dX4_init_1 ?_
  refine nd_aload_n hC dX4_init_4 rfl rfl ?_
  refine nd_bipush hC (v := nI 6) (by rfl) dX4_init_5 ?_
  refine nd_bipush hC (v := nI 6) (by rfl) dX4_init_7 ?_
  refine nd_multi (n := 6) (k := 6) hC q330 (by omega) (by omega) dX4_init_9 (by omega) (by omega) ?_
  generalize e1 : h ++ (.inl (5, 6, .inr (.inr (fun j => .ref (h.length + 1 + j)))) :: List.replicate 6 (.inl (0, 6, .inl (fun _ => 0)))) = h1
  have l1 : h1.length = b + 8 := by rw [← e1, List.length_append, hL]; rfl
  have k1 : ∀ c, c < b + 1 → h1[c]? = h[c]? := fun c hc => by rw [← e1]; exact List.getElem?_append_left (by omega)
  have r1 : h1[b + 1]? = some (.inl (5, 6, .inr (.inr (fun t => .ref (b + 2 + t))))) := by
    rw [← e1, List.getElem?_append_right (by omega), show b + 1 - h.length = 0 by omega, hL]
    show some (Sum.inl (5, 6, Sum.inr (Sum.inr (fun j => Value.ref (b + 1 + 1 + j))))) = _
    rfl
  have r2 : ∀ t, t < 6 → h1[b + 2 + t]? = some (.inl (0, 6, .inl (fun _ => 0))) := fun t ht => by
    rw [← e1, List.getElem?_append_right (by omega), show b + 2 + t - h.length = t + 1 by omega, List.getElem?_cons_succ, List.getElem?_replicate, if_pos ht]
  have hb1 := (k1 b (by omega)).trans hb
  refine nd_putF (ci := nX4) hC in_X4 rfl hb1 0 (by decide) tyX4 tyX4_ok (by decide +kernel) q332 (fun _ z => z) rfl rfl rfl rfl rfl (by show 0 < 3; decide) dX4_init_13 ?_
  rw [hL]
  show nd_W _ _ _ _ _ _ _ _ _ _ (h1.set b (.inr (nX4, [.ref (b + 1), .null, .int 0]))) _ _
  generalize e2 : h1.set b (.inr (nX4, [.ref (b + 1), .null, .int 0])) = h2
  have l2 : h2.length = b + 8 := by rw [← e2, List.length_set, l1]
  have k2 : ∀ c, c ≠ b → h2[c]? = h1[c]? := fun c hc => by rw [← e2]; exact List.getElem?_set_ne (Ne.symm hc)
  have b2 : h2[b]? = some (.inr (nX4, [.ref (b + 1), .null, .int 0])) := by rw [← e2]; exact List.getElem?_set_self (by omega)
  refine nd_aload_n hC dX4_init_16 rfl rfl ?_
  refine nd_bipush hC (v := nI 6) (by rfl) dX4_init_17 ?_
  refine nd_newarray hC (atype := .int) (ty := 0) .int (.inl (fun _ => 0)) q322 rfl rfl (fun _ _ => rfl) (N := 6) rfl (by decide) (by decide) (by omega) (by omega) dX4_init_19 ?_
  rw [l2]
  have hb3 : (h2 ++ [(.inl (0, 6, .inl (fun _ => 0)) : nd_C)])[b]? = some (.inr (nX4, [.ref (b + 1), .null, .int 0])) := (List.getElem?_append_left (by omega)).trans b2
  refine nd_putF (ci := nX4) hC in_X4 rfl hb3 1 (by decide) tyX4 tyX4_ok (by decide +kernel) q336 (fun _ z => z) rfl rfl rfl rfl rfl (by show 1 < 3; decide) dX4_init_21 ?_
  have k3 : ∀ c, c ≠ b → c < b + 8 → ((h2 ++ [(.inl (0, 6, .inl (fun _ => 0)) : nd_C)]).set b (.inr (nX4, [.ref (b + 1), .ref (b + 8), .int 0])))[c]? = h1[c]? := fun c z1 z2 => by
    rw [List.getElem?_set_ne (Ne.symm z1), List.getElem?_append_left (by omega)]
    exact k2 c z1
  have R := hk ((h2 ++ [(.inl (0, 6, .inl (fun _ => 0)) : nd_C)]).set b (.inr (nX4, [.ref (b + 1), .ref (b + 8), .int 0]))) ⟨by rw [List.length_set, List.length_append, l2, hL]; rfl, fun c z1 z2 => (k3 c z1 (by omega)).trans (k1 c (by omega))⟩ ⟨List.getElem?_set_self (by rw [List.length_append]; omega), (k3 _ (by omega) (by omega)).trans r1, fun t ht => (k3 _ (by omega) (by omega)).trans (r2 t ht), by rw [List.getElem?_set_ne (by omega), ← l2]; exact l_at_last⟩
  refine nd_return hC rfl (by omega) (by omega) dX4_init_24 (R)
end IN994

