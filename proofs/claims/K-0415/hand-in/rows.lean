section
/-! numbers: the few comparisons with literals that the walks need -/
theorem ld_t0 : (0 : Int32).toInt = 0 := by decide
theorem ld_t1 : (1 : Int32).toInt = 1 := by decide
theorem ld_t31 : (31 : Int32).toInt = 31 := by decide
theorem ld_t32 : (32 : Int32).toInt = 32 := by decide
theorem ld_in {p : Int32} (h0 : ¬ p < 0) (h1 : p ≤ 31) : vp_in p 32 := by
  rw [Int32.lt_iff_toInt_lt, ld_t0] at h0
  rw [Int32.le_iff_toInt_le, ld_t31] at h1
  rw [vp_in_iff]
  omega
theorem ld_nn {p : Int32} (h0 : ¬ p < 0) : 0 ≤ p := by
  rw [Int32.lt_iff_toInt_lt, ld_t0] at h0
  rw [Int32.le_iff_toInt_le, ld_t0]
  omega
theorem ld_ng {p : Int32} (h0 : p < 0) : ¬ 0 ≤ p := by
  rw [Int32.lt_iff_toInt_lt, ld_t0] at h0
  rw [Int32.le_iff_toInt_le, ld_t0]
  omega
theorem ld_le {p : Int32} (h0 : p < 0) : p ≤ 0 := by
  rw [Int32.lt_iff_toInt_lt, ld_t0] at h0
  rw [Int32.le_iff_toInt_le, ld_t0]
  omega
theorem ld_pos {p : Int32} (h0 : ¬ p < 0) (hz : ¬ p = 0) : ¬ p ≤ 0 := by
  rw [Int32.lt_iff_toInt_lt, ld_t0] at h0
  rw [← Int32.toInt_inj, ld_t0] at hz
  rw [Int32.le_iff_toInt_le, ld_t0]
  omega
theorem ld_32 {p : Int32} (h1 : p ≤ 31) : ¬ 32 ≤ p := by
  rw [Int32.le_iff_toInt_le, ld_t31] at h1
  rw [Int32.le_iff_toInt_le, ld_t32]
  omega
theorem ld_lt1 {p : Int32} (h : p < 1) : p ≤ 0 := by
  rw [Int32.lt_iff_toInt_lt, ld_t1] at h
  rw [Int32.le_iff_toInt_le, ld_t0]
  omega
theorem ld_nlt1 {p : Int32} (h : ¬ p < 1) : ¬ p ≤ 0 := by
  rw [Int32.lt_iff_toInt_lt, ld_t1] at h
  rw [Int32.le_iff_toInt_le, ld_t0]
  omega
theorem ld_nlt0 {p : Int32} (h : ¬ p < 1) : ¬ p < 0 := by
  rw [Int32.lt_iff_toInt_lt, ld_t1] at h
  rw [Int32.lt_iff_toInt_lt, ld_t0]
  omega
theorem ld_m1 : (-1 : Int32) < 0 := by decide
theorem ld_00 : ¬ (0 : Int32) < 0 := by decide
theorem ld_z0 : (0 : Int32) ≤ 0 := by decide
/-- the packed answer of retire and pending -/
def ld_pk (p b : Int32) : Int64 := (p.toInt64 <<< ((32 : Int32).toInt64 &&& 63)) ||| (b.toInt64 &&& 4294967295)

/-! retire: a lemma a branch, any post -/
section
variable {post : Int64 → SX → Prop} {p a : Int32} {g : Nat → Int32}
theorem ld_xret_n (hp : p < 0) (h : post (-1) (p, a, g)) : wpX_retire post (p, a, g) := br_f (ld_ng hp) h
theorem ld_xret_z (h : post (ld_pk 0 a) (-1, 0, g)) : wpX_retire post (0, a, g) := br_t ld_z0 (nm_e (br_t rfl h))
theorem ld_xret_p (hp : ¬ p < 0) (h1 : p ≤ 31) (hz : ¬ p = 0) (h : post (ld_pk p a) (-1, 0, upd g p.toNatClampNeg a)) : wpX_retire post (p, a, g) :=
  br_t (ld_nn hp) (nm_e (br_f hz ⟨ld_in hp h1, nm_e h⟩))
end
section
variable {post : Int64 → SY → Prop} {p b : Int32} {g : Nat → Int32}
theorem ld_yret_n (hp : p < 0) (h : post (-1) (-1, b, g)) : wpY_retire post (p, b, g) := br_f (ld_ng hp) (br_t (ld_le hp) h)
theorem ld_yret_z (h : post (ld_pk 0 b) (-1, b, g)) : wpY_retire post (0, b, g) := br_t ld_z0 (br_t ld_z0 h)
theorem ld_yret_p (hp : ¬ p < 0) (h1 : p ≤ 31) (hz : ¬ p = 0) (h : post (ld_pk p b) (-1, b, upd g p.toNatClampNeg b)) : wpY_retire post (p, b, g) :=
  br_t (ld_nn hp) (br_f (ld_pos hp hz) (br_f (ld_32 h1) ⟨ld_in hp h1, nm_e h⟩))
end

/-! load: a lemma a branch, any post -/
section
variable {post : Int32 → SX → Prop} {p a r w : Int32} {g : Nat → Int32}
theorem ld_xload_lo (r0 : r < 0) (h : post 1 (p, a, g)) : wpX_load post (p, a, g) r w := br_t r0 h
theorem ld_xload_hi (r0 : ¬ r < 0) (r1 : ¬ r ≤ 31) (h : post 1 (p, a, g)) : wpX_load post (p, a, g) r w := br_f r0 (br_f r1 h)
theorem ld_xload_n (r0 : ¬ r < 0) (r1 : r ≤ 31) (hp : p < 0) (h : post 0 (r, w, g)) : wpX_load post (p, a, g) r w := br_f r0 (br_t r1 (br_t hp h))
theorem ld_xload_e (r0 : ¬ r < 0) (r1 : r ≤ 31) (hp : ¬ p < 0) (e : p = r) (h : post 0 (r, w, g)) : wpX_load post (p, a, g) r w :=
  br_f r0 (br_t r1 (br_f hp (br_t e h)))
theorem ld_xload_z (r0 : ¬ r < 0) (r1 : r ≤ 31) (e : ¬ 0 = r) (h : post 0 (r, w, g)) : wpX_load post (0, a, g) r w :=
  br_f r0 (br_t r1 (br_f ld_00 (br_f e (br_t rfl h))))
theorem ld_xload_p (r0 : ¬ r < 0) (r1 : r ≤ 31) (hp : ¬ p < 0) (h1 : p ≤ 31) (e : ¬ p = r) (hz : ¬ p = 0) (h : post 0 (r, w, upd g p.toNatClampNeg a)) : wpX_load post (p, a, g) r w :=
  br_f r0 (br_t r1 (br_f hp (br_f e (br_f hz ⟨ld_in hp h1, nm_e h⟩))))
end
section
variable {post : Int32 → SY → Prop} {p b r w : Int32} {g : Nat → Int32}
theorem ld_yload_lo (r0 : r < 0) (h : post 1 (p, b, g)) : wpY_load post (p, b, g) r w := br_t r0 h
theorem ld_yload_hi (r0 : ¬ r < 0) (r1 : ¬ r ≤ 31) (h : post 1 (p, b, g)) : wpY_load post (p, b, g) r w := br_f r0 (br_f r1 h)
theorem ld_yload_e (r0 : ¬ r < 0) (r1 : r ≤ 31) (e : p = r) (h : post 0 (r, w, g)) : wpY_load post (p, b, g) r w :=
  br_f r0 (br_t r1 (br_t e h))
theorem ld_yload_n (r0 : ¬ r < 0) (r1 : r ≤ 31) (hp : p < 0) (e : ¬ p = r) (h : post 0 (r, w, g)) : wpY_load post (p, b, g) r w := by
  refine br_f r0 (br_t r1 (br_f e ?_))
  refine ld_yret_n hp ?_
  exact h
theorem ld_yload_z (r0 : ¬ r < 0) (r1 : r ≤ 31) (e : ¬ 0 = r) (h : post 0 (r, w, g)) : wpY_load post (0, b, g) r w := by
  refine br_f r0 (br_t r1 (br_f e ?_))
  refine ld_yret_z ?_
  exact h
theorem ld_yload_p (r0 : ¬ r < 0) (r1 : r ≤ 31) (hp : ¬ p < 0) (h1 : p ≤ 31) (e : ¬ p = r) (hz : ¬ p = 0) (h : post 0 (r, w, upd g p.toNatClampNeg b)) : wpY_load post (p, b, g) r w := by
  refine br_f r0 (br_t r1 (br_f e ?_))
  refine ld_yret_p hp h1 hz ?_
  exact h
end

/-! write: the array that a write leaves, named once for both sides -/
def ld_wr (g : Nat → Int32) (r w : Int32) : Nat → Int32 := if r = 0 then g else upd g r.toNatClampNeg w
section
variable {post : Int32 → SX → Prop} {p a r w : Int32} {g : Nat → Int32}
theorem ld_xwr_lo (r0 : r < 0) (h : post 1 (p, a, g)) : wpX_write post (p, a, g) r w := br_t r0 h
theorem ld_xwr_hi (r0 : ¬ r < 0) (r1 : ¬ r ≤ 31) (h : post 1 (p, a, g)) : wpX_write post (p, a, g) r w := br_f r0 (br_f r1 h)
theorem ld_xwr_j (r0 : ¬ r < 0) (r1 : r ≤ 31) (h : wX_write_23 post r p a (ld_wr g r w)) : wpX_write post (p, a, g) r w := by
  by_cases z : r = 0
  · rw [ld_wr, if_pos z] at h
    exact br_f r0 (br_t r1 (br_t z h))
  · rw [ld_wr, if_neg z] at h
    exact br_f r0 (br_t r1 (br_f z ⟨ld_in r0 r1, nm_e h⟩))
theorem ld_xwr_e (r0 : ¬ r < 0) (r1 : r ≤ 31) (e : p = r) (h : post 0 (-1, 0, ld_wr g r w)) : wpX_write post (p, a, g) r w :=
  ld_xwr_j r0 r1 (br_t e h)
theorem ld_xwr_n (r0 : ¬ r < 0) (r1 : r ≤ 31) (e : ¬ p = r) (h : post 0 (p, a, ld_wr g r w)) : wpX_write post (p, a, g) r w :=
  ld_xwr_j r0 r1 (br_f e h)
end
section
variable {post : Int32 → SY → Prop} {p b r w : Int32} {g : Nat → Int32}
theorem ld_ywr_lo (r0 : r < 0) (h : post 1 (p, b, g)) : wpY_write post (p, b, g) r w := br_t r0 h
theorem ld_ywr_hi (r0 : ¬ r < 0) (r1 : ¬ r ≤ 31) (h : post 1 (p, b, g)) : wpY_write post (p, b, g) r w := br_f r0 (br_f r1 h)
theorem ld_ywr_j (r0 : ¬ r < 0) (r1 : r ≤ 31) (h : wY_write_23 post r p b (ld_wr g r w)) : wpY_write post (p, b, g) r w := by
  by_cases z : r = 0
  · rw [ld_wr, if_pos z] at h
    exact br_f r0 (br_t r1 (br_t z h))
  · rw [ld_wr, if_neg z] at h
    exact br_f r0 (br_t r1 (br_f z ⟨ld_in r0 r1, nm_e h⟩))
theorem ld_ywr_e (r0 : ¬ r < 0) (r1 : r ≤ 31) (e : p = r) (h : post 0 (-1, b, ld_wr g r w)) : wpY_write post (p, b, g) r w :=
  ld_ywr_j r0 r1 (br_t e h)
theorem ld_ywr_n (r0 : ¬ r < 0) (r1 : r ≤ 31) (e : ¬ p = r) (h : post 0 (p, b, ld_wr g r w)) : wpY_write post (p, b, g) r w :=
  ld_ywr_j r0 r1 (br_f e h)
end

/-! read and pending: they only read -/
section
variable {post : Int32 → Prop} {p a r : Int32} {g : Nat → Int32}
theorem ld_xrd_lo (r0 : r < 1) (h : post 0) : wpX_read post (p, a, g) r := br_t r0 h
theorem ld_xrd_hi (r0 : ¬ r < 1) (r1 : ¬ r ≤ 31) (h : post 0) : wpX_read post (p, a, g) r := br_f r0 (br_f r1 h)
theorem ld_xrd_in (r0 : ¬ r < 1) (r1 : r ≤ 31) (h : post (g r.toNatClampNeg)) : wpX_read post (p, a, g) r :=
  br_f r0 (br_t r1 ⟨ld_in (ld_nlt0 r0) r1, h⟩)
theorem ld_yrd_lo (r0 : r < 1) (h : post 0) : wpY_read post (p, a, g) r := br_t (ld_lt1 r0) h
theorem ld_yrd_hi (r0 : ¬ r < 1) (r1 : ¬ r ≤ 31) (h : post 0) : wpY_read post (p, a, g) r := br_f (ld_nlt1 r0) (br_f r1 h)
theorem ld_yrd_in (r0 : ¬ r < 1) (r1 : r ≤ 31) (h : post (g r.toNatClampNeg)) : wpY_read post (p, a, g) r :=
  br_f (ld_nlt1 r0) (br_t r1 ⟨ld_in (ld_nlt0 r0) r1, h⟩)
end
section
variable {post : Int64 → Prop} {p a : Int32} {g : Nat → Int32}
theorem ld_xpe_n (hp : p < 0) (h : post (-1)) : wpX_pending post (p, a, g) := br_f (ld_ng hp) h
theorem ld_xpe_p (hp : ¬ p < 0) (h : post (ld_pk p a)) : wpX_pending post (p, a, g) := br_t (ld_nn hp) h
theorem ld_ype_n (hp : p < 0) (h : post (-1)) : wpY_pending post (p, a, g) := br_f (ld_ng hp) h
theorem ld_ype_p (hp : ¬ p < 0) (h : post (ld_pk p a)) : wpY_pending post (p, a, g) := br_t (ld_nn hp) h
end
end
section
/-- the same registers and the same pending register number; that is -1, or a register whose pending values agree -/
def i_Rel (_ : Nat) (u : SX) (v : SY) : Prop :=
  ∃ (g : Nat → Int32) (p a b : Int32), u = (p, a, g) ∧ v = (p, b, g) ∧ (p = -1 ∨ (¬ p < 0 ∧ p ≤ 31 ∧ a = b))
/-- nothing is pending: the two pending values need not agree -/
theorem ld_rn (k : Nat) (a b : Int32) (g : Nat → Int32) : i_Rel k (-1, a, g) (-1, b, g) := ⟨g, -1, a, b, rfl, rfl, .inl rfl⟩
/-- a register is pending -/
theorem ld_rp (k : Nat) {p : Int32} (h0 : ¬ p < 0) (h1 : p ≤ 31) (a : Int32) (g : Nat → Int32) : i_Rel k (p, a, g) (p, a, g) :=
  ⟨g, p, a, a, rfl, rfl, .inr ⟨h0, h1, rfl⟩⟩
/-- the relation's two cases -/
theorem ld_el {P : SX → SY → Prop} {k : Nat} {u : SX} {v : SY} (hn : ∀ a b g, P (-1, a, g) (-1, b, g))
    (hp : ∀ p a g, ¬ p < 0 → p ≤ 31 → P (p, a, g) (p, a, g)) (I : i_Rel k u v) : P u v := by
  obtain ⟨g, p, a, b, rfl, rfl, h⟩ := I
  rcases h with rfl | ⟨h0, h1, rfl⟩
  · exact hn a b g
  · exact hp p a g h0 h1
theorem i_up {k : Nat} {u : SX} {v : SY} (h : i_Rel k u v) : i_Rel (k + 3) u v := h
theorem i_vc0 : wpX_init (fun u => wpY_init (fun v => i_Rel 0 u v)) := ld_rn 0 0 0 (fun _ => 0)
theorem i_vc_load {k : Nat} {u : SX} {v : SY} (I : i_Rel k u v) (hk : k + 3 ≤ 1536) (v1 : Int32) (v2 : Int32) : wpX_load (fun r u' => wpY_load (fun r' v' => r' = r ∧ i_Rel (k + 3) u' v') v v1 v2) u v1 v2 := by
  refine ld_el (P := fun u v => wpX_load (fun r u' => wpY_load (fun r' v' => r' = r ∧ i_Rel (k + 3) u' v') v v1 v2) u v1 v2) ?_ ?_ I
  · intro a b g
    by_cases r0 : v1 < 0
    · exact ld_xload_lo r0 (ld_yload_lo r0 ⟨rfl, ld_rn _ a b g⟩)
    · by_cases r1 : v1 ≤ 31
      · have e : ¬ (-1 : Int32) = v1 := fun z => r0 (z ▸ ld_m1)
        exact ld_xload_n r0 r1 ld_m1 (ld_yload_n r0 r1 ld_m1 e ⟨rfl, ld_rp _ r0 r1 v2 g⟩)
      · exact ld_xload_hi r0 r1 (ld_yload_hi r0 r1 ⟨rfl, ld_rn _ a b g⟩)
  · intro p a g h0 h1
    by_cases r0 : v1 < 0
    · exact ld_xload_lo r0 (ld_yload_lo r0 ⟨rfl, ld_rp _ h0 h1 a g⟩)
    · by_cases r1 : v1 ≤ 31
      · by_cases e : p = v1
        · exact ld_xload_e r0 r1 h0 e (ld_yload_e r0 r1 e ⟨rfl, ld_rp _ r0 r1 v2 g⟩)
        · by_cases z : p = 0
          · subst z
            exact ld_xload_z r0 r1 e (ld_yload_z r0 r1 e ⟨rfl, ld_rp _ r0 r1 v2 g⟩)
          · exact ld_xload_p r0 r1 h0 h1 e z (ld_yload_p r0 r1 h0 h1 e z ⟨rfl, ld_rp _ r0 r1 v2 _⟩)
      · exact ld_xload_hi r0 r1 (ld_yload_hi r0 r1 ⟨rfl, ld_rp _ h0 h1 a g⟩)
theorem i_vc_write {k : Nat} {u : SX} {v : SY} (I : i_Rel k u v) (hk : k + 3 ≤ 1536) (v1 : Int32) (v2 : Int32) : wpX_write (fun r u' => wpY_write (fun r' v' => r' = r ∧ i_Rel (k + 3) u' v') v v1 v2) u v1 v2 := by
  refine ld_el (P := fun u v => wpX_write (fun r u' => wpY_write (fun r' v' => r' = r ∧ i_Rel (k + 3) u' v') v v1 v2) u v1 v2) ?_ ?_ I
  · intro a b g
    by_cases r0 : v1 < 0
    · exact ld_xwr_lo r0 (ld_ywr_lo r0 ⟨rfl, ld_rn _ a b g⟩)
    · by_cases r1 : v1 ≤ 31
      · have e : ¬ (-1 : Int32) = v1 := fun z => r0 (z ▸ ld_m1)
        exact ld_xwr_n r0 r1 e (ld_ywr_n r0 r1 e ⟨rfl, ld_rn _ a b _⟩)
      · exact ld_xwr_hi r0 r1 (ld_ywr_hi r0 r1 ⟨rfl, ld_rn _ a b g⟩)
  · intro p a g h0 h1
    by_cases r0 : v1 < 0
    · exact ld_xwr_lo r0 (ld_ywr_lo r0 ⟨rfl, ld_rp _ h0 h1 a g⟩)
    · by_cases r1 : v1 ≤ 31
      · by_cases e : p = v1
        · exact ld_xwr_e r0 r1 e (ld_ywr_e r0 r1 e ⟨rfl, ld_rn _ 0 a _⟩)
        · exact ld_xwr_n r0 r1 e (ld_ywr_n r0 r1 e ⟨rfl, ld_rp _ h0 h1 a _⟩)
      · exact ld_xwr_hi r0 r1 (ld_ywr_hi r0 r1 ⟨rfl, ld_rp _ h0 h1 a g⟩)
theorem i_vc_retire {k : Nat} {u : SX} {v : SY} (I : i_Rel k u v) (hk : k + 3 ≤ 1536) : wpX_retire (fun r u' => wpY_retire (fun r' v' => r' = r ∧ i_Rel (k + 3) u' v') v) u := by
  refine ld_el (P := fun u v => wpX_retire (fun r u' => wpY_retire (fun r' v' => r' = r ∧ i_Rel (k + 3) u' v') v) u) ?_ ?_ I
  · intro a b g
    exact ld_xret_n ld_m1 (ld_yret_n ld_m1 ⟨rfl, ld_rn _ a b g⟩)
  · intro p a g h0 h1
    by_cases z : p = 0
    · subst z
      exact ld_xret_z (ld_yret_z ⟨rfl, ld_rn _ 0 a g⟩)
    · exact ld_xret_p h0 h1 z (ld_yret_p h0 h1 z ⟨rfl, ld_rn _ 0 a _⟩)
theorem i_vc_read {k : Nat} {u : SX} {v : SY} (I : i_Rel k u v) (hk : k + 3 ≤ 1536) (v1 : Int32) : wpX_read (fun r => wpY_read (fun r' => r' = r ∧ i_Rel (k + 3) u v) v v1) u v1 := by
  have J : i_Rel (k + 3) u v := i_up I
  obtain ⟨g, p, a, b, rfl, rfl, _⟩ := I
  by_cases r0 : v1 < 1
  · exact ld_xrd_lo r0 (ld_yrd_lo r0 ⟨rfl, J⟩)
  · by_cases r1 : v1 ≤ 31
    · exact ld_xrd_in r0 r1 (ld_yrd_in r0 r1 ⟨rfl, J⟩)
    · exact ld_xrd_hi r0 r1 (ld_yrd_hi r0 r1 ⟨rfl, J⟩)
theorem i_vc_pending {k : Nat} {u : SX} {v : SY} (I : i_Rel k u v) (hk : k + 3 ≤ 1536) : wpX_pending (fun r => wpY_pending (fun r' => r' = r ∧ i_Rel (k + 3) u v) v) u := by
  refine ld_el (P := fun u v => wpX_pending (fun r => wpY_pending (fun r' => r' = r ∧ i_Rel (k + 3) u v) v) u) ?_ ?_ I
  · intro a b g
    exact ld_xpe_n ld_m1 (ld_ype_n ld_m1 ⟨rfl, ld_rn _ a b g⟩)
  · intro p a g h0 h1
    exact ld_xpe_p h0 (ld_ype_p h0 ⟨rfl, ld_rp _ h0 h1 a g⟩)
end
