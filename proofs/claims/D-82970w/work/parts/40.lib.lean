/-! PLAIN: what is used to run pure functions -/
theorem up_ap (G : St) (o k v o' k' : Int) : up G o k v o' k' = if o' = o ∧ k' = k then v else G o' k' := rfl
theorem acp_ap (G : St) (o sp o1 dp n o' k : Int) : acp G o sp o1 dp n o' k = if o' = o1 then (if dp ≤ k ∧ k < dp + n then G o (sp + (k - dp)) else G o1 k) else G o' k := by
  unfold acp uq
  split <;> rfl
theorem up_up (G : St) (o k v w : Int) : up (up G o k v) o k w = up G o k w := by
  funext o' k'
  simp only [up_ap]
  split <;> rfl
theorem up_id (G : St) (o k : Int) : up G o k (G o k) = G := by
  funext o' k'
  simp only [up_ap]
  split
  · rename_i h; rw [h.1, h.2]
  · rfl
theorem up_id' {G : St} {o k v : Int} (h : v = G o k) : up G o k v = G := by rw [h, up_id]
theorem up_cm (G : St) {o k v o' k' w : Int} (h : o ≠ o' ∨ k ≠ k') : up (up G o k v) o' k' w = up (up G o' k' w) o k v := by
  funext a b
  simp only [up_ap]
  by_cases h1 : a = o' ∧ b = k'
  · rw [if_pos h1, if_neg (fun h2 => by rcases h with h | h <;> omega), if_pos h1]
  · rw [if_neg h1]
    by_cases h2 : a = o ∧ b = k
    · rw [if_pos h2, if_pos h2]
    · rw [if_neg h2, if_neg h2, if_neg h1]
section BND
variable {α β ρ : Type}
theorem ite_bind {c : Prop} [Decidable c] (a b : Option α) (f : α → Option β) : (if c then a else b).bind f = if c then a.bind f else b.bind f := by split <;> rfl
theorem ckI_bind (x : Int) (a : Option α) (f : α → Option β) : (ckI x a).bind f = ckI x (a.bind f) := by unfold ckI; split <;> rfl
theorem ckL_bind (x : Int) (a : Option α) (f : α → Option β) : (ckL x a).bind f = ckL x (a.bind f) := by unfold ckL; split <;> rfl
theorem ckB_bind (x y : Int) (a : Option α) (f : α → Option β) : (ckB x y a).bind f = ckB x y (a.bind f) := by unfold ckB; split <;> rfl
theorem ckD_bind (x y : Int) (a : Option α) (f : α → Option β) : (ckD x y a).bind f = ckD x y (a.bind f) := by unfold ckD; split <;> rfl
theorem ckA_bind (x y z : Int) (a : Option α) (f : α → Option β) : (ckA x y z a).bind f = ckA x y z (a.bind f) := by unfold ckA; split <;> rfl
theorem ckQ_bind (x y : Int) (k : Int → Option α) (f : α → Option β) : (ckQ x y k).bind f = ckQ x y (fun z => (k z).bind f) := by unfold ckQ; split <;> rfl
theorem tk_bind (G : St) (k : St → Option α) (f : α → Option β) : (tk G k).bind f = tk G (fun G => (k G).bind f) := rfl
theorem vl_bind (x : Int) (k : Int → Option α) (f : α → Option β) : (vl x k).bind f = vl x (fun G => (k G).bind f) := rfl
theorem bd_bind (r : Option (Int × St)) (k : Int → St → Option α) (f : α → Option β) : (bd r k).bind f = bd r (fun z G => (k z G).bind f) := by
  cases r <;> rfl
theorem lb_inl {σ τ : Type} (s : σ) (K : σ → Option τ) (T : ρ → Option τ) : (some (Sum.inl s : σ ⊕ ρ)).bind (lk K T) = K s := rfl
theorem lb_some (a : Option α) : a.bind some = a := by cases a <;> rfl
end BND
theorem lk_inl {σ ρ τ : Type} (X : σ → Option τ) (T : ρ → Option τ) (s : σ) : lk X T (Sum.inl s) = X s := rfl
theorem lk_inr {σ ρ τ : Type} (X : σ → Option τ) (T : ρ → Option τ) (r : ρ) : lk X T (Sum.inr r) = T r := rfl
