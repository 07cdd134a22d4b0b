/-! PLAIN: behind a fault the component's reader does nothing more -/
theorem FG_at {n : Int} {f : Int → Int} {k w p : Int} {G : St} (h : FG n f k w p G) {x : Int} (h0 : 0 ≤ x) (h1 : x ≤ 2000 + k) : FG n f k w p (up G 150 2 x) := by
  obtain ⟨a, b, c, d, e, g, hh, i1, i2, i3, i4, i, j, l, m⟩ := h
  refine ⟨a.at _ _ (by decide), ?_, ?_, ?_, ?_, ?_, ?_, ?_, ?_, ?_, ?_, ?_, ?_, l, m⟩ <;> simp only [up_ap] <;> simp <;> assumption
theorem FG_sk {n : Int} {f : Int → Int} {k w p : Int} {G : St} (h : FG n f k w p G) : FG n f k w p (skC n f G) := by
  have h' := h
  obtain ⟨a, b, c, d, e, g, hh, i1, i2, i3, i4, i, j, l, m⟩ := h'
  have hn := a.2.2.1
  have s1 := sk_ge n f (G 150 2)
  refine FG_at h (by omega) ?_
  by_cases q : G 150 2 ≤ n
  · have := sk_le (f := f) q; omega
  · rw [sk_fix (fun q2 => by omega)]; exact c
theorem FG_deep {n : Int} {f : Int → Int} {k w p : Int} {G : St} (h : FG n f k w p G) {x : Int} (h0 : G 150 3 - 1 ≤ x) (h1 : x ≤ G 150 3 + 1) : FG n f (k + 1) w p (up G 150 3 x) := by
  obtain ⟨a, b, c, d, e, g, hh, i1, i2, i3, i4, i, j, l, m⟩ := h
  refine ⟨a.at _ _ (by decide), ?_, ?_, ?_, ?_, ?_, ?_, ?_, ?_, ?_, ?_, ?_, ?_, l, by omega⟩ <;> simp only [up_ap] <;> simp <;> omega
theorem FG_add {n : Int} {f : Int → Int} {k w p : Int} {G : St} (h : FG n f k w p G) (op x y z : Int) : FG n f (k + 1) w p (adC G op x y z) := by
  obtain ⟨a, b, c, d, e, g, hh, i1, i2, i3, i4, i, j, l, m⟩ := h
  refine ⟨a.cg ?_ ?_, ?_, ?_, ?_, ?_, ?_, ?_, ?_, ?_, ?_, ?_, ?_, ?_, l, by omega⟩
  · simp [adC, up_ap]
  · funext o; simp [adC, up_ap]
  all_goals (simp only [adC, up_ap]; simp; omega)
theorem FG_add_e {n : Int} {f : Int → Int} {k w p : Int} {G : St} (h : FG n f k w p G) (hk : k ≤ 7000) {op : Int} (x y z : Int) (o0 : 0 ≤ op) (o1 : op < 61) : Cd_add op x y z G = some (G 110 4, adC G op x y z) := by
  obtain ⟨a, b, c, d, e, g, hh, i1, i2, i3, i4, i, j, l, m⟩ := h
  exact Cd_add_e d (by omega) o0 o1
theorem FG_F {n : Int} {f : Int → Int} {k w p : Int} {G : St} (h : FG n f k w p G) : G 130 0 ≠ 0 := by
  obtain ⟨a, b, c, d, e, g, hh, i1, i2, i3, i4, i, j, l, m⟩ := h
  rw [i]; exact l
theorem FG_sign {n : Int} {f : Int → Int} {k w p : Int} {G : St} (h : FG n f k w p G) (hk : k ≤ 7000) {c : Int} (hc : c ∈ sgs) : Rd_sign c G = some (0, skC n f G) := by
  have hF := FG_F h
  obtain ⟨a, b, c', d, e, g, hh, i1, i2, i3, i4, i, j, l, m⟩ := h
  rw [Rd_sign_e hc a b (by omega), if_neg hF]
theorem f_expr {n : Int} {f : Int → Int} {k w p : Int} {G : St} (h : FG n f k w p G) (d : Nat) : RE (d + 1) 0 [] G = some (0, G) := by
  show Rd_expr (RE d) G = _
  unfold Rd_expr
  rw [Ft_is_1 (FG_F h), bd_some, if_neg (by decide)]
theorem f_factor {n : Int} {f : Int → Int} {k w p : Int} {G : St} (h : FG n f k w p G) (d : Nat) : RE (d + 1) 2 [] G = some (0, skC n f G) := by
  show Rd_factor (RE d) G = _
  have h2 := FG_F (FG_sk h)
  unfold Rd_factor
  rw [Rd_skip_e h.1 h.2.1, bd_some, show up G 150 2 (sk n f (G 150 2)) = skC n f G from rfl, Ft_is_1 h2, bd_some, if_neg (by decide)]
theorem f_around {n : Int} {f : Int → Int} {k w p : Int} {G : St} (h : FG n f k w p G) (d : Nat) : RE (d + 1) 3 [] G = some (0, skC n f G) := by
  show Rd_around (RE d) G = _
  have h2 := FG_F (FG_sk h)
  unfold Rd_around
  rw [Rd_skip_e h.1 h.2.1, bd_some, show up G 150 2 (sk n f (G 150 2)) = skC n f G from rfl, Ft_is_1 h2, bd_some, if_neg (by decide)]
