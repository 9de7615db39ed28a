section
/-! ===== a cell of the script: any int, whatever the script's length ===== -/
theorem os_cell {post : Int32 → Prop} {L : Nat} {xs : Nat → Int32} {u : St0} {p : Int32} (k : Nat) (hL : L ≤ 3) (hk : k < 3) (hp : p = nI k) (h : ∀ r, post r) : wpL_cellAt post L xs u p :=
  pk_le L k (fun _ => h _) (fun hl => ⟨pk_in k L hl hp, h _⟩) rfl hp
/-! ===== the methods, a hypothesis a road (done is 0 or 1) ===== -/
theorem os_cmp {post : Int32 → Prop} {u : StJ02238} {p q : Int32} (h0 : p = q → post 0) (h1 : p ≤ q → ¬ p = q → post 1) (h2 : ¬ p ≤ q → post (-1)) : wpJ6_compare_7cf53_48e5c post u q p :=
  ⟨fun a => ⟨fun e => h0 e.symm, fun e => h1 a (fun z => e z.symm)⟩, h2⟩
theorem os_x1_tie {post : Int32 → Prop} {d p q : Int32} (h0 : p = q → post 0) (h1 : p ≤ q → ¬ p = q → post 1) (h2 : ¬ p ≤ q → post (-1)) : wpX1_taskOrder post (d, p, d, q) := by
  unfold wpX1_taskOrder
  exact br_t rfl (br_t rfl (os_cmp h0 h1 h2))
theorem os_x1_01 {post : Int32 → Prop} {p q : Int32} (h : post (-1)) : wpX1_taskOrder post (0, p, 1, q) := by
  unfold wpX1_taskOrder
  exact br_f (by decide) (br_t rfl (br_f (by decide) h))
theorem os_x1_10 {post : Int32 → Prop} {p q : Int32} (h : post 1) : wpX1_taskOrder post (1, p, 0, q) := by
  unfold wpX1_taskOrder
  exact br_f (by decide) (br_f (by decide) (br_f (by decide) h))
theorem os_rk0 {post : Int32 → Prop} {p : Int32} (h : post 0) : wpX2_rank post (0, p) := by
  unfold wpX2_rank
  exact br_t rfl h
theorem os_rk1 {post : Int32 → Prop} {p : Int32} (h : post 1) : wpX2_rank post (1, p) := by
  unfold wpX2_rank
  exact br_f (by decide) h
theorem os_x2_00 {post : Int32 → Prop} {p q : Int32} (h0 : p = q → post 0) (h1 : ¬ q ≤ p → ¬ p = q → post 1) (h2 : q ≤ p → ¬ p = q → post (-1)) : wpX2_taskOrder post (0, p, 0, q) := by
  unfold wpX2_taskOrder
  exact os_rk0 (os_rk0 (br_t (by decide) (os_rk0 (os_rk0 (br_t (by decide) (br_c h0 (fun e => br_c (fun a => h2 a e) (fun a => h1 a e))))))))
theorem os_x2_11 {post : Int32 → Prop} {p q : Int32} (h0 : p = q → post 0) (h1 : ¬ q ≤ p → ¬ p = q → post 1) (h2 : q ≤ p → ¬ p = q → post (-1)) : wpX2_taskOrder post (1, p, 1, q) := by
  unfold wpX2_taskOrder
  exact os_rk1 (os_rk1 (br_t (by decide) (os_rk1 (os_rk1 (br_t (by decide) (br_c h0 (fun e => br_c (fun a => h2 a e) (fun a => h1 a e))))))))
theorem os_x2_01 {post : Int32 → Prop} {p q : Int32} (h : post (-1)) : wpX2_taskOrder post (0, p, 1, q) := by
  unfold wpX2_taskOrder
  exact os_rk0 (os_rk1 (br_f (by decide) h))
theorem os_x2_10 {post : Int32 → Prop} {p q : Int32} (h : post 1) : wpX2_taskOrder post (1, p, 0, q) := by
  unfold wpX2_taskOrder
  exact os_rk1 (os_rk0 (br_t (by decide) (os_rk1 (os_rk0 (br_f (by decide) h)))))
/-! ===== both orders agree: done first, then the greater prio ===== -/
theorem os_nle {p q : Int32} (a : p ≤ q) (e : ¬ p = q) : ¬ q ≤ p := fun b => e (Int32.le_antisymm a b)
theorem os_rev {p q : Int32} (a : ¬ p ≤ q) : q ≤ p := (Int32.le_total p q).resolve_left a
theorem os_ne {p q : Int32} (a : ¬ p ≤ q) : ¬ p = q := fun e => a (e ▸ Int32.le_refl p)
theorem os_both {post : Int32 → Int32 → Prop} {a b p q : Int32} (ha : a = 0 ∨ a = 1) (hb : b = 0 ∨ b = 1) (h : ∀ r, post r r) : wpX1_taskOrder (fun r => wpX2_taskOrder (fun s => post r s) (a, p, b, q)) (a, p, b, q) := by
  rcases ha with rfl | rfl <;> rcases hb with rfl | rfl
  · exact os_x1_tie
      (fun e => os_x2_00 (fun _ => h _) (fun _ f => absurd e f) (fun _ f => absurd e f))
      (fun a e => os_x2_00 (fun f => absurd f e) (fun _ _ => h _) (fun b _ => absurd b (os_nle a e)))
      (fun a => os_x2_00 (fun f => absurd f (os_ne a)) (fun b _ => absurd (os_rev a) b) (fun _ _ => h _))
  · exact os_x1_01 (os_x2_01 (h _))
  · exact os_x1_10 (os_x2_10 (h _))
  · exact os_x1_tie
      (fun e => os_x2_11 (fun _ => h _) (fun _ f => absurd e f) (fun _ f => absurd e f))
      (fun a e => os_x2_11 (fun f => absurd f e) (fun _ _ => h _) (fun b _ => absurd b (os_nle a e)))
      (fun a => os_x2_11 (fun f => absurd f (os_ne a)) (fun b _ => absurd (os_rev a) b) (fun _ _ => h _))
/-! ===== the law, join by join ===== -/
theorem os_init {post : St1 → Prop} {u : St1} {d p : Int32} (hd : d = 0 ∨ d = 1) (h : post (d, p)) : wpX0_init post u d p := by
  obtain ⟨f, g⟩ := u
  unfold wpX0_init
  rcases hd with rfl | rfl
  · exact ⟨by decide, by decide, h⟩
  · exact ⟨by decide, by decide, h⟩
theorem os_46 {mc ms kc ks : Nat} {z a b p f g : Int32} (ha : a = 0 ∨ a = 1) (hb : b = 0 ∨ b = 1) : wL_lawOf_46 (fun r _ => r = 1) mc ms z b kc ks a p f g := by
  unfold wL_lawOf_46
  exact os_init hb (os_both (post := fun r s => ((r = s → ((1 : Int32) = 1)) ∧ (¬ r = s → ((0 : Int32) = 1)))) ha hb (fun _ => br_t rfl rfl))
theorem os_35 {mc ms kc ks : Nat} {x y w a b p f g : Int32} (ha : a = 0 ∨ a = 1) (hb : b = 0 ∨ b = 1) : wL_lawOf_35 (fun r _ => r = 1) mc ms x y w b kc ks a p f g :=
  br_c (fun _ => os_46 ha hb) (fun _ => os_46 ha hb)
theorem os_15 {mc ms kc ks : Nat} {x y w a f g : Int32} (ha : a = 0 ∨ a = 1) (hc : kc + 1 ≤ mc) (hs : ks + 2 ≤ ms) : wL_lawOf_15 (fun r _ => r = 1) mc ms x y w a kc ks f g := by
  unfold wL_lawOf_15
  exact os_init ha ⟨hc, hs, br_c (fun _ => os_35 ha (Or.inl rfl)) (fun _ => os_35 ha (Or.inr rfl))⟩
theorem os_lawOf {u : St0} {x y w : Int32} : wpL_lawOf (fun r _ => r = 1) 3 48 u x y w :=
  ⟨by decide, by decide, br_c (fun _ => os_15 (Or.inl rfl) (by decide) (by decide)) (fun _ => os_15 (Or.inr rfl) (by decide) (by decide))⟩
theorem i_vc (xs : Nat → Int32) (L : Nat) (hL : L ≤ 3) : wpL_law (fun r => r = 1) L xs := by
  unfold wpL_law
  exact os_cell 0 hL (by decide) rfl (fun _ => os_cell 1 hL (by decide) rfl (fun _ => os_cell 2 hL (by decide) rfl (fun _ => ⟨3, 48, by decide, by decide, os_lawOf⟩)))
end
