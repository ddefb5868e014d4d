set_option maxRecDepth 100000
/-! ===== rows are known up to their length ===== -/
section EX95
variable {g : nd_G} {mm : nd_Mt} {d mc ms : Nat} {K : nd_K} {X : nd_X} {pc : Nat} {lv : List (Option Value)} {st : List Value} {h : nd_H} {cs ss b : Nat}
theorem nd_ext {ty n : Nat} {f f2 : Nat → Value} (hb : h[b]? = some (.inl (ty, n, .inr (.inr f)))) (hf : ∀ j, j < n → f j = f2 j) (k : nd_W g mm d mc ms K X pc lv st (h.set b (.inl (ty, n, .inr (.inr f2)))) cs ss) : nd_W g mm d mc ms K X pc lv st h cs ss := by
  intro H ls locs hl hR hS
  refine k H ls locs hl (hR.set rfl (fun _ _ => rfl) ?_) hS
  have h1 : H[nd_z g + b]? = some (arrV (nd_tc g ty) n (fun j => nd_v g (f j))) := hR.2.2 b _ hb
  show H[nd_z g + b]? = some (arrV (nd_tc g ty) n (fun j => nd_v g (f2 j)))
  rw [h1]
  unfold arrV
  congr 2
  simp +contextual [hf]
end EX95

