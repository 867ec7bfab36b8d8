section
/-- the phase: one of five -/
def rs_P (p : Int32) : Prop := p = 0 ∨ p = 1 ∨ p = 2 ∨ p = 3 ∨ p = 4
/-- the opening hashes: at most four -/
def rs_H (h : Int32) : Prop := h = 0 ∨ h = 1 ∨ h = 2 ∨ h = 3 ∨ h = 4
/-- the two objects hold the same four values; the closing hashes seen are no more than the cells read so far -/
def i_Rel (k : Nat) (u : SX) (v : SY) : Prop :=
  ∃ (p h : Int32) (j : Nat) (l : Int64), u = (p, h, nI j, l) ∧ v = (h, p, nI j, l) ∧ rs_P p ∧ rs_H h ∧ j ≤ k
theorem rs_mk {k j : Nat} {p h : Int32} {l : Int64} (hp : rs_P p) (hh : rs_H h) (hj : j ≤ k) : i_Rel k (p, h, nI j, l) (h, p, nI j, l) :=
  ⟨p, h, j, l, rfl, rfl, hp, hh, hj⟩
theorem rs_mk0 {k : Nat} {p h : Int32} {l : Int64} (hp : rs_P p) (hh : rs_H h) : i_Rel k (p, h, 0, l) (h, p, 0, l) :=
  ⟨p, h, 0, l, rfl, rfl, hp, hh, Nat.zero_le k⟩
theorem rs_p0 : rs_P 0 := Or.inl rfl
theorem rs_p1 : rs_P 1 := Or.inr (Or.inl rfl)
theorem rs_p2 : rs_P 2 := Or.inr (Or.inr (Or.inl rfl))
theorem rs_p3 : rs_P 3 := Or.inr (Or.inr (Or.inr (Or.inl rfl)))
theorem rs_p4 : rs_P 4 := Or.inr (Or.inr (Or.inr (Or.inr rfl)))
/-- one hash more, while there are fewer than four: the byte holds it -/
theorem rs_h1 {h : Int32} (q : rs_H h) (c : ¬ (4 : Int32) ≤ h) : (h + 1).toInt8.toInt32 = h + 1 ∧ rs_H (h + 1) := by
  rcases q with rfl | rfl | rfl | rfl | rfl
  · exact ⟨by decide, Or.inr (Or.inl (by decide))⟩
  · exact ⟨by decide, Or.inr (Or.inr (Or.inl (by decide)))⟩
  · exact ⟨by decide, Or.inr (Or.inr (Or.inr (Or.inl (by decide))))⟩
  · exact ⟨by decide, Or.inr (Or.inr (Or.inr (Or.inr (by decide))))⟩
  · exact absurd (by decide) c
/-- a byte cast fits a byte (a row of the kit's rows to paste) -/
theorem pk_fb (r : Int32) : fits .byte (.int r.toInt8.toInt32) = true := by
  have ⟨a, b⟩ := lg_i2b_range r
  have h1 : (-128 : Int32).toInt = -128 := by decide
  have h2 : (127 : Int32).toInt = 127 := by decide
  simp only [fits, Bool.and_eq_true, decide_eq_true_eq, Int32.le_iff_toInt_le, h1, h2]
  omega
/-- the credit of a quote and its hashes: summed as an int, or as longs -/
theorem rs_64 {j : Nat} (h : j ≤ 1024) : (1 + nI j).toInt64 = 1 + (nI j).toInt64 := by
  rw [Int32.add_comm, nI_1, nI_l (by omega), nI_l (by omega), Int64.add_comm, lN_1]
theorem rs_one : (1 : Int32).toInt64 = 1 := by decide
theorem rs_l1 {j : Nat} (h : j ≤ 1024) (l : Int64) : l + (1 + nI j).toInt64 = l + 1 + (nI j).toInt64 := by
  rw [rs_64 h, Int64.add_assoc]
theorem i_up {k : Nat} {u : SX} {v : SY} (h : i_Rel k u v) : i_Rel (k + 2) u v := by
  obtain ⟨p, q, j, l, a, b, c, d, e⟩ := h
  exact ⟨p, q, j, l, a, b, c, d, by omega⟩
theorem i_vc0 : wpX_init (fun u => wpY_init (fun v => i_Rel 0 u v)) := rs_mk0 rs_p0 (Or.inl rfl)
theorem i_vc_feed {k : Nat} {u : SX} {v : SY} (I : i_Rel k u v) (hk : k + 2 ≤ 1024) (v1 : Int32) : wpX_feed (fun r u' => wpY_feed (fun r' v' => r' = r ∧ i_Rel (k + 2) u' v') v v1) u v1 := by
  obtain ⟨p, h, j, l, rfl, rfl, hp, hh, hj⟩ := I
  have hj2 : j ≤ k + 2 := by omega
  have hj3 : j + 1 ≤ k + 2 := by omega
  have hj4 : j ≤ 1024 := by omega
  rcases hp with rfl | rfl | rfl | rfl | rfl
  · -- the opening
    by_cases a : v1 = 34
    · have b : ¬ v1 = 35 := by rw [a]; decide
      exact br_t rfl (br_f b (br_t a (br_f (by decide) (br_f (by decide) (br_t rfl (br_f b (br_t a (And.intro rfl (rs_mk rs_p1 hh hj2)))))))))
    · by_cases b : v1 = 35
      · by_cases c : (4 : Int32) ≤ h
        · exact br_t rfl (br_t b (br_t c (br_f a (br_f (by decide) (br_f (by decide) (br_t rfl (br_t b (br_t c (br_f a (And.intro rfl (rs_mk rs_p4 hh hj2)))))))))))
        · obtain ⟨e, h1⟩ := rs_h1 hh c
          have n : narrow .byte (.int (h + 1)) = .int (h + 1) := by rw [← e]; exact lw_i8_n (h + 1)
          have f : fits .byte (.int (h + 1)) = true := by rw [← e]; exact pk_fb (h + 1)
          refine br_t rfl (br_t b (br_f c (fun x ex => ?_)))
          refine br_f (by decide) (br_f (by decide) (br_t rfl (br_t b (br_f c (fun y ey => ?_)))))
          cases ex
          cases ey.trans e
          exact And.intro n (And.intro f (And.intro rfl (rs_mk rs_p0 h1 hj2)))
      · exact br_t rfl (br_f b (br_f a (br_f (by decide) (br_f (by decide) (br_t rfl (br_f b (br_f a (And.intro rfl (rs_mk rs_p4 hh hj2)))))))))
  · -- the content
    by_cases a : v1 = 34
    · by_cases z : h = 0
      · exact br_f (by decide) (br_t rfl (br_t a (br_t z (br_f (by decide) (br_f (by decide) (br_f (by decide) (br_t rfl (br_t a (br_t z (And.intro rfl (rs_mk rs_p3 hh hj2)))))))))))
      · exact br_f (by decide) (br_t rfl (br_t a (br_f z (br_f (by decide) (br_f (by decide) (br_f (by decide) (br_t rfl (br_t a (br_f z (And.intro rfl (rs_mk0 rs_p2 hh)))))))))))
    · refine br_f (by decide) (br_t rfl (br_f a (fun x ex => ?_)))
      refine br_f (by decide) (br_f (by decide) (br_f (by decide) (br_t rfl (br_f a (fun y ey => ?_)))))
      cases ex
      rw [rs_one] at ey
      cases ey
      exact And.intro rfl (rs_mk rs_p1 hh hj2)
  · -- behind a quote
    by_cases b : v1 = 35
    · by_cases z : nI j + 1 = h
      · refine br_f (by decide) (br_f (by decide) (br_t rfl (br_t b (fun x ex => ?_))))
        cases ex
        refine br_t z ?_
        refine br_f (by decide) (br_f (by decide) (br_f (by decide) (br_f (by decide) (br_t rfl (br_t b (fun y ey => ?_))))))
        cases ey
        refine br_t z (And.intro rfl ?_)
        rw [nI_1]
        exact rs_mk rs_p3 hh hj3
      · refine br_f (by decide) (br_f (by decide) (br_t rfl (br_t b (fun x ex => ?_))))
        cases ex
        refine br_f z ?_
        refine br_f (by decide) (br_f (by decide) (br_f (by decide) (br_f (by decide) (br_t rfl (br_t b (fun y ey => ?_))))))
        cases ey
        refine br_f z (And.intro rfl ?_)
        rw [nI_1]
        exact rs_mk rs_p2 hh hj3
    · by_cases a : v1 = 34
      · refine br_f (by decide) (br_f (by decide) (br_t rfl (br_f b (br_t a (fun x ex => ?_)))))
        refine br_f (by decide) (br_f (by decide) (br_f (by decide) (br_f (by decide) (br_t rfl (br_f b (fun y ey => ?_))))))
        cases ex
        rw [rs_l1 hj4] at ey
        cases ey
        exact br_t a (And.intro rfl (rs_mk0 rs_p2 hh))
      · refine br_f (by decide) (br_f (by decide) (br_t rfl (br_f b (br_f a (fun x ex => ?_)))))
        refine br_f (by decide) (br_f (by decide) (br_f (by decide) (br_f (by decide) (br_t rfl (br_f b (fun y ey => ?_))))))
        cases ex
        rw [rs_l1 hj4] at ey
        cases ey
        refine br_f a (fun w ew => ?_)
        rw [rs_one] at ew
        cases ew
        exact And.intro rfl (rs_mk0 rs_p1 hh)
  · -- closed
    exact br_f (by decide) (br_f (by decide) (br_f (by decide) (br_t rfl (br_f (by decide) (br_t (by decide) (And.intro rfl (rs_mk rs_p3 hh hj2)))))))
  · -- failed
    exact br_f (by decide) (br_f (by decide) (br_f (by decide) (br_f (by decide) (br_f (by decide) (br_t (by decide) (And.intro rfl (rs_mk rs_p4 hh hj2)))))))
theorem i_vc_hashes {k : Nat} {u : SX} {v : SY} (I : i_Rel k u v) (hk : k + 2 ≤ 1024) : wpX_hashes (fun r => wpY_hashes (fun r' => r' = r ∧ i_Rel (k + 2) u v) v) u := by
  have J := i_up I
  obtain ⟨p, h, j, l, rfl, rfl, hp, hh, hj⟩ := I
  exact And.intro rfl J
theorem i_vc_contentLen {k : Nat} {u : SX} {v : SY} (I : i_Rel k u v) (hk : k + 2 ≤ 1024) : wpX_contentLen (fun r => wpY_contentLen (fun r' => r' = r ∧ i_Rel (k + 2) u v) v) u := by
  have J := i_up I
  obtain ⟨p, h, j, l, rfl, rfl, hp, hh, hj⟩ := I
  exact And.intro rfl J
end
