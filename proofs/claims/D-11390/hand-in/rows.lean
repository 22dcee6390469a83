section
/-! ===== the picture ===== -/
/-- of the lowest five bits of b the bit q alone is set -/
def sd_B (b : Int32) (q : Nat) : Prop := ∀ k, k < 5 → (((b >>> (nI k &&& 31)) &&& 1) = 0 ↔ k ≠ q)
/-- the five operations of the law's program -/
def sd_C (a : Nat → Int32) : Prop := a 0 = 0 ∧ a 1 = 0 ∧ a 2 = 1 ∧ a 3 = 2 ∧ a 4 = 10
theorem sd_nar {a : Nat → Int32} (h : sd_C a) : ∀ j, j < 5 → vp_nar .byte (a j) = a j := by
  obtain ⟨h0, h1, h2, h3, h4⟩ := h
  intro j hj
  rw [vp_nar_byte]
  match j, hj with
  | 0, _ => rw [h0]; decide
  | 1, _ => rw [h1]; decide
  | 2, _ => rw [h2]; decide
  | 3, _ => rw [h3]; decide
  | 4, _ => rw [h4]; decide
theorem sd_one : ∀ q, q < 20 → ∀ k, k < 5 → ((((0 ||| ((1 : Int32) <<< (nI q &&& 31))) >>> (nI k &&& 31)) &&& 1) = 0 ↔ k ≠ q) := by decide +kernel
theorem sd_z0 : ∀ k, k < 5 → (((0 : Int32) >>> (nI k &&& 31)) &&& 1) = 0 := by decide +kernel
theorem sd_zero {q : Nat} (h : 5 ≤ q) : sd_B 0 q := fun k hk => ⟨fun _ => by omega, fun _ => sd_z0 k hk⟩
/-! ===== the methods ===== -/
section
variable {pl sz lv pc ov ct bk wy am ap ad : Int32} {a1 a2 a3 a4 a5 a6 a7 : Nat → Int32}
theorem sd_in {post : Int32 → Prop} {i : Nat} (hi : i < 5) (h : post 1) : wpX_inside post (pl, nI 5, lv, pc, ov, ct, bk, wy, am, ap, ad, a1, a2, a3, a4, a5, a6, a7) (nI i) :=
  br_f (nI_pos (by omega)) (br_f (nI_ge hi (by decide)) h)
theorem sd_bit {post : Int32 → Prop} {i : Nat} (hi : i < 5) (h : post ((1 : Int32) <<< (nI i &&& 31))) : wpX_bit post (pl, nI 5, lv, pc, ov, ct, bk, wy, am, ap, ad, a1, a2, a3, a4, a5, a6, a7) (nI i) := by
  unfold wpX_bit
  dsimp only
  exact sd_in hi (br_f (by decide) h)
theorem sd_st {post : Int32 → Prop} {i : Nat} {o : Int32} (hi : i < 5) (ho : a1 i = o) (h7 : ¬ o = 7) (h8 : ¬ o = 8) (h : post 0) : wpX_stuck post (pl, sz, lv, nI i, ov, ct, bk, wy, am, ap, ad, a1, a2, a3, a4, a5, a6, a7) := by
  have e : a1 (nI i).toNatClampNeg = o := by rw [nI_clamp (by omega), ho]
  exact ⟨vp_in_nI (by omega) (by decide), br_f (by rw [e]; exact h7) ⟨vp_in_nI (by omega) (by decide), br_f (by rw [e]; exact h8) h⟩⟩
theorem sd_aim {post : Int32 → Prop} (h : post 0) : wpX_aimReached post (pl, sz, lv, pc, ov, ct, bk, wy, 0, ap, ad, a1, a2, a3, a4, a5, a6, a7) :=
  br_f (by decide) (br_f (by decide) (br_f (by decide) (br_f (by decide) h)))
theorem sd_jd0 {post : Int32 → Prop} {i : Nat} {o : Int32} (hi : i < 5) (ho : a1 i = o) (h7 : ¬ o = 7) (h8 : ¬ o = 8) (h : post 0) : wpX_judge post (pl, nI 5, lv, nI i, 0, ct, bk, wy, am, ap, ad, a1, a2, a3, a4, a5, a6, a7) 0 :=
  br_t rfl (sd_in hi (br_f (by decide) (sd_st hi ho h7 h8 (br_t rfl (br_t (by decide) (br_t (by decide) (br_t (by decide) h)))))))
theorem sd_jdG {post : Int32 → Prop} {i d : Nat} {o : Int32} (hi : i < 5) (ho : a1 i = o) (h7 : ¬ o = 7) (h8 : ¬ o = 8) (hd : 0 < d) (hd2 : d < 150) (hb : ((bk >>> (nI i &&& 31)) &&& 1) = 0) (h : post 0) : wpX_judge post (pl, nI 5, lv, nI i, 0, ct, bk, wy, 0, ap, ad, a1, a2, a3, a4, a5, a6, a7) (nI d) :=
  br_t rfl (sd_in hi (br_f (by decide) (sd_st hi ho h7 h8 (br_t rfl (br_f (nI_nle hd (by omega)) (sd_aim (br_t rfl (br_f (nI_nle hd (by omega)) (br_t hb (br_t (nI_lt (b := 150) hd2 (by decide)) h))))))))))
theorem sd_jdB {post : Int32 → Prop} {i d : Nat} {o : Int32} (hi : i < 5) (ho : a1 i = o) (h7 : ¬ o = 7) (h8 : ¬ o = 8) (hd : 0 < d) (hd2 : d < 150) (hb : ¬ ((bk >>> (nI i &&& 31)) &&& 1) = 0) (h : post 2) : wpX_judge post (pl, nI 5, lv, nI i, 0, ct, bk, wy, 0, ap, ad, a1, a2, a3, a4, a5, a6, a7) (nI d) :=
  br_t rfl (sd_in hi (br_f (by decide) (sd_st hi ho h7 h8 (br_t rfl (br_f (nI_nle hd (by omega)) (sd_aim (br_t rfl (br_f (nI_nle hd (by omega)) (br_f hb h)))))))))
theorem sd_jdE {post : Int32 → Prop} {d : Int32} (h : post 6) : wpX_judge post (pl, sz, lv, pc, 1, ct, bk, wy, am, ap, ad, a1, a2, a3, a4, a5, a6, a7) d := br_f (by decide) h
theorem sd_suc {post : Int32 → Prop} (ho : a1 0 = 0) (h : post ((1 : Int32) <<< (nI 1 &&& 31))) : wpX_successors post (pl, nI 5, lv, nI 0, ov, ct, bk, wy, am, ap, ad, a1, a2, a3, a4, a5, a6, a7) := by
  have e : a1 (nI 0).toNatClampNeg = 0 := by rw [nI_clamp (by decide), ho]
  unfold wpX_successors
  dsimp only
  rw [nI_1 0]
  exact ⟨vp_in_nI (by decide) (by decide), nm_r e (sd_bit (i := 1) (by decide) (br_f (by decide) (br_f (by decide) (br_f (by decide) (br_f (by decide) (br_f (by decide) (br_f (by decide) h)))))))⟩
/-! ===== plant ===== -/
theorem sd_plS {post : St2 → Prop} {s : Int32} : ∀ c i, i + c = 5 → (∀ k, i ≤ k → k < 5 → ((s >>> (nI k &&& 31)) &&& 1) = 0) → post (pl, nI 5, lv, pc, ov, ct, bk, wy, am, ap, ad, a1, a2, a3, a4, a5, a6, a7) → wX_plant_2 post s (nI 5) lv pc ov ct bk wy am ap ad (c + 1) (nI i) pl a1 a2 a3 a4 a5 a6 a7
  | 0, i, e, _, H => br_t (nI_le (by omega) (by omega)) H
  | c + 1, i, e, hb, H => br_f (nI_ge (by omega) (by decide)) (br_t (hb i (by omega) (by omega)) (nm_r (nI_1 i) (sd_plS c (i + 1) (by omega) (fun k h1 h2 => hb k (by omega) h2) H)))
theorem sd_plG {post : St2 → Prop} {s : Int32} {q : Nat} (hs : sd_B s q) (h1 : q < 5 → post (pl ||| ((1 : Int32) <<< (nI q &&& 31)), nI 5, lv, pc, ov, ct, bk, wy, am, ap, ad, upd a1 q 11, a2, a3, upd a4 q (vp_nar .byte (a1 q)), a5, a6, a7)) (h2 : 5 ≤ q → post (pl, nI 5, lv, pc, ov, ct, bk, wy, am, ap, ad, a1, a2, a3, a4, a5, a6, a7)) : ∀ c i, i + c = 5 → i ≤ q → wX_plant_2 post s (nI 5) lv pc ov ct bk wy am ap ad (c + 1) (nI i) pl a1 a2 a3 a4 a5 a6 a7
  | 0, i, e, hq => br_t (nI_le (by omega) (by omega)) (h2 (by omega))
  | c + 1, i, e, hq => by
    refine br_f (nI_ge (by omega) (by decide)) ?_
    by_cases h : i = q
    · subst h
      exact br_f (fun z => (hs i (by omega)).mp z rfl) ⟨vp_in_nI (by omega) (by decide), vp_in_nI (by omega) (by decide), nm_r (by rw [nI_clamp (by omega)]) ⟨vp_in_nI (by omega) (by decide), nm_r (by rw [nI_clamp (by omega)]) (nm_e (nm_r (nI_1 i) (sd_plS c (i + 1) (by omega) (fun k g1 g2 => (hs k g2).mpr (by omega)) (h1 (by omega)))))⟩⟩
    · exact br_t ((hs i (by omega)).mpr h) (nm_r (nI_1 i) (sd_plG hs h1 h2 c (i + 1) (by omega) (by omega)))
theorem sd_plant {post : St2 → Prop} {s : Int32} {q : Nat} (hs : sd_B s q)
    (H : ∀ (pl' : Int32) (a1' a4' : Nat → Int32), (∀ j, j ≠ q → a1' j = a1 j) → (q < 5 → a1' q = 11) → (q < 5 → a4' q = vp_nar .byte (a1 q)) → sd_B pl' q → post (pl', nI 5, lv, pc, ov, ct, bk, wy, am, ap, ad, a1', a2, a3, a4', a5, a6, a7)) :
    wpX_plant post (0, nI 5, lv, pc, ov, ct, bk, wy, am, ap, ad, a1, a2, a3, a4, a5, a6, a7) s :=
  ⟨6, sd_plG hs (fun hq => H _ _ _ (fun j hj => pk_un hj) (fun _ => pk_us) (fun _ => pk_us) (sd_one q (by omega))) (fun hq => H _ _ _ (fun _ _ => rfl) (fun z => absurd z (by omega)) (fun z => absurd z (by omega)) (sd_zero hq)) 5 0 (by omega) (by omega)⟩
/-! ===== lift ===== -/
theorem sd_lfS {post : St2 → Prop} : ∀ c i, i + c = 5 → (∀ k, i ≤ k → k < 5 → ((pl >>> (nI k &&& 31)) &&& 1) = 0) → post (0, nI 5, lv, pc, ov, ct, bk, wy, am, ap, ad, a1, a2, a3, a4, a5, a6, a7) → wX_lift_2 post pl (nI 5) lv pc ov ct bk wy am ap ad (c + 1) (nI i) a1 a2 a3 a4 a5 a6 a7
  | 0, i, e, _, H => br_t (nI_le (by omega) (by omega)) H
  | c + 1, i, e, hb, H => br_f (nI_ge (by omega) (by decide)) (br_t (hb i (by omega) (by omega)) (nm_r (nI_1 i) (sd_lfS c (i + 1) (by omega) (fun k h1 h2 => hb k (by omega) h2) H)))
theorem sd_lfG {post : St2 → Prop} {q : Nat} (hs : sd_B pl q) (h1 : q < 5 → post (0, nI 5, lv, pc, ov, ct, bk, wy, am, ap, ad, upd a1 q (vp_nar .byte (a4 q)), a2, a3, a4, a5, a6, a7)) (h2 : 5 ≤ q → post (0, nI 5, lv, pc, ov, ct, bk, wy, am, ap, ad, a1, a2, a3, a4, a5, a6, a7)) : ∀ c i, i + c = 5 → i ≤ q → wX_lift_2 post pl (nI 5) lv pc ov ct bk wy am ap ad (c + 1) (nI i) a1 a2 a3 a4 a5 a6 a7
  | 0, i, e, hq => br_t (nI_le (by omega) (by omega)) (h2 (by omega))
  | c + 1, i, e, hq => by
    refine br_f (nI_ge (by omega) (by decide)) ?_
    by_cases h : i = q
    · subst h
      exact br_f (fun z => (hs i (by omega)).mp z rfl) ⟨vp_in_nI (by omega) (by decide), vp_in_nI (by omega) (by decide), nm_r (by rw [nI_clamp (by omega)]) (nm_r (nI_1 i) (sd_lfS c (i + 1) (by omega) (fun k g1 g2 => (hs k g2).mpr (by omega)) (h1 (by omega))))⟩
    · exact br_t ((hs i (by omega)).mpr h) (nm_r (nI_1 i) (sd_lfG hs h1 h2 c (i + 1) (by omega) (by omega)))
theorem sd_lift {post : St2 → Prop} {q : Nat} (hs : sd_B pl q)
    (H : ∀ a1' : Nat → Int32, (∀ j, j ≠ q → a1' j = a1 j) → (q < 5 → a1' q = vp_nar .byte (a4 q)) → post (0, nI 5, lv, pc, ov, ct, bk, wy, am, ap, ad, a1', a2, a3, a4, a5, a6, a7)) :
    wpX_lift post (pl, nI 5, lv, pc, ov, ct, bk, wy, am, ap, ad, a1, a2, a3, a4, a5, a6, a7) :=
  ⟨6, sd_lfG hs (fun _ => H _ (fun j hj => pk_un hj) (fun _ => pk_us)) (fun hq => H _ (fun _ _ => rfl) (fun z => absurd z (by omega))) 5 0 (by omega) (by omega)⟩
/-! ===== the target ===== -/
theorem sd_wk0 {post : St2 → Prop} {a : Nat} {b : Int32} (ha : a < 4) (H : post (pl, sz, lv, pc, ov, ct, bk, wy, am, ap, ad, a1, a2, a3, a4, upd a5 a b, a6, a7)) : wpX_work post (pl, sz, lv, pc, ov, ct, bk, wy, am, ap, ad, a1, a2, a3, a4, a5, a6, a7) 0 (nI a) b :=
  br_t rfl ⟨vp_in_nI ha (by decide), nm_r (by rw [nI_clamp (by omega)]) H⟩
theorem sd_wk1 {post : St2 → Prop} {a b : Nat} (ha : a < 4) (hb : b < 4) (H : post (pl, sz, lv, pc, ov, ct, bk, wy, am, ap, ad, a1, a2, a3, a4, upd a5 a (a5 a + a5 b), a6, a7)) : wpX_work post (pl, sz, lv, pc, ov, ct, bk, wy, am, ap, ad, a1, a2, a3, a4, a5, a6, a7) 1 (nI a) (nI b) :=
  br_f (by decide) (br_t rfl ⟨vp_in_nI ha (by decide), vp_in_nI hb (by decide), vp_in_nI ha (by decide), nm_r (by rw [nI_clamp (show a < 2 ^ 31 by omega), nI_clamp (show b < 2 ^ 31 by omega)]) H⟩)
theorem sd_wk2 {post : St2 → Prop} {a b : Nat} (ha : a < 4) (hb : b < 4) (H : post (pl, sz, lv, pc, ov, ct, bk, wy, am, ap, ad, a1, a2, a3, a4, upd a5 a (a5 a - a5 b), a6, a7)) : wpX_work post (pl, sz, lv, pc, ov, ct, bk, wy, am, ap, ad, a1, a2, a3, a4, a5, a6, a7) 2 (nI a) (nI b) :=
  br_f (by decide) (br_f (by decide) (br_t rfl ⟨vp_in_nI ha (by decide), vp_in_nI hb (by decide), vp_in_nI ha (by decide), nm_r (by rw [nI_clamp (show a < 2 ^ 31 by omega), nI_clamp (show b < 2 ^ 31 by omega)]) H⟩))
theorem sd_cw {post : St2 → Prop} {i : Nat} {o a b : Int32} {r : Nat → Int32} (hi : i < 5) (ho : a1 i = o) (ha : a2 i = a) (hb : a3 i = b) (h4 : ¬ 4 < o)
    (hw : ∀ P : St2 → Prop, P (pl, sz, lv, nI i, ov, ct, bk, wy, am, ap, ad, a1, a2, a3, a4, r, a6, a7) → wpX_work P (pl, sz, lv, nI i, ov, ct, bk, wy, am, ap, ad, a1, a2, a3, a4, a5, a6, a7) o a b) (H : post (pl, sz, lv, nI (i + 1), ov, ct, bk, wy, am, ap, ad, a1, a2, a3, a4, r, a6, a7)) : wpX_carry post (pl, sz, lv, nI i, ov, ct, bk, wy, am, ap, ad, a1, a2, a3, a4, a5, a6, a7) := by
  have e1 : a1 (nI i).toNatClampNeg = o := by rw [nI_clamp (by omega), ho]
  have e2 : a2 (nI i).toNatClampNeg = a := by rw [nI_clamp (by omega), ha]
  have e3 : a3 (nI i).toNatClampNeg = b := by rw [nI_clamp (by omega), hb]
  exact ⟨vp_in_nI (by omega) (by decide), nm_r e1 ⟨vp_in_nI (by omega) (by decide), nm_r e2 ⟨vp_in_nI (by omega) (by decide), nm_r e3 (br_f h4 (hw _ (nm_r (nI_1 i) H)))⟩⟩⟩
theorem sd_ce {post : St2 → Prop} {i : Nat} (hi : i < 5) (ho : a1 i = 10) (H : post (pl, sz, lv, nI i, 1, ct, bk, wy, am, ap, ad, a1, a2, a3, a4, a5, a6, a7)) : wpX_carry post (pl, sz, lv, nI i, ov, ct, bk, wy, am, ap, ad, a1, a2, a3, a4, a5, a6, a7) := by
  have e1 : a1 (nI i).toNatClampNeg = 10 := by rw [nI_clamp (by omega), ho]
  exact ⟨vp_in_nI (by omega) (by decide), nm_r e1 ⟨vp_in_nI (by omega) (by decide), nm_e ⟨vp_in_nI (by omega) (by decide), nm_e (br_t (by decide) (br_f (by decide) (br_f (by decide) (br_f (by decide) (br_f (by decide) (br_f (by decide) H))))))⟩⟩⟩
/-! ===== resume, a turn at a time: d carried out, k turns, m the most ===== -/
theorem sd_rs {post : Int32 → St2 → Prop} {i n m d k c : Nat} {o : Int32} {pc' ov' : Int32} {r : Nat → Int32} (hm : k < m) (hm2 : m < 2 ^ 31) (hi : i < 5) (ho : a1 i = o) (h11 : ¬ o = 11) (h7 : ¬ o = 7) (h8 : ¬ o = 8)
    (hc : ∀ P : St2 → Prop, P (pl, nI 5, lv, pc', ov', nI c, bk, wy, am, ap, ad, a1, a2, a3, a4, r, a6, a7) → wpX_carry P (pl, nI 5, lv, nI i, 0, nI c, bk, wy, am, ap, ad, a1, a2, a3, a4, a5, a6, a7))
    (H : wX_resume_4 post (nI m) n (nI (d + 1)) (nI (k + 1)) pl (nI 5) lv pc' ov' (nI (c + 1)) bk wy am ap ad a1 a2 a3 a4 r a6 a7) :
    wX_resume_4 post (nI m) (n + 1) (nI d) (nI k) pl (nI 5) lv (nI i) 0 (nI c) bk wy am ap ad a1 a2 a3 a4 a5 a6 a7 := by
  have e1 : ¬ a1 (nI i).toNatClampNeg = 11 := by rw [nI_clamp (by omega), ho]; exact h11
  exact br_f (nI_ge hm hm2) (br_t rfl (sd_in hi (br_f (by decide) ⟨vp_in_nI (by omega) (by decide), br_f e1 (sd_st hi ho h7 h8 (br_t rfl (hc _ (nm_r (nI_1 d) (nm_r (nI_1 c) (nm_r (nI_1 k) H))))))⟩)))
theorem sd_rsT {post : Int32 → St2 → Prop} {i n m d k : Nat} (hm : k < m) (hm2 : m < 2 ^ 31) (hi : i < 5) (ho : a1 i = 11) (H : post (nI d) (pl, nI 5, lv, nI i, 0, ct, bk, wy, am, ap, ad, a1, a2, a3, a4, a5, a6, a7)) :
    wX_resume_4 post (nI m) (n + 1) (nI d) (nI k) pl (nI 5) lv (nI i) 0 ct bk wy am ap ad a1 a2 a3 a4 a5 a6 a7 := by
  have e1 : a1 (nI i).toNatClampNeg = 11 := by rw [nI_clamp (by omega), ho]
  exact br_f (nI_ge hm hm2) (br_t rfl (sd_in hi (br_f (by decide) ⟨vp_in_nI (by omega) (by decide), br_t e1 H⟩)))
theorem sd_rsO {post : Int32 → St2 → Prop} {n m d k : Nat} (hm : k < m) (hm2 : m < 2 ^ 31) (H : post (nI d) (pl, sz, lv, pc, 1, ct, bk, wy, am, ap, ad, a1, a2, a3, a4, a5, a6, a7)) :
    wX_resume_4 post (nI m) (n + 1) (nI d) (nI k) pl sz lv pc 1 ct bk wy am ap ad a1 a2 a3 a4 a5 a6 a7 :=
  br_f (nI_ge hm hm2) (br_f (by decide) H)
/-- SET, ADD, SUB and END -/
theorem sd_rs0 {post : Int32 → St2 → Prop} {i n m d k c a : Nat} {b : Int32} (hm : k < m) (hm2 : m < 2 ^ 31) (hi : i < 5) (ho : a1 i = 0) (ha : a2 i = nI a) (hb : a3 i = b) (ha4 : a < 4)
    (H : wX_resume_4 post (nI m) n (nI (d + 1)) (nI (k + 1)) pl (nI 5) lv (nI (i + 1)) 0 (nI (c + 1)) bk wy am ap ad a1 a2 a3 a4 (upd a5 a b) a6 a7) :
    wX_resume_4 post (nI m) (n + 1) (nI d) (nI k) pl (nI 5) lv (nI i) 0 (nI c) bk wy am ap ad a1 a2 a3 a4 a5 a6 a7 :=
  sd_rs hm hm2 hi ho (by decide) (by decide) (by decide) (fun _ h => sd_cw hi ho ha hb (by decide) (fun _ g => sd_wk0 ha4 g) h) H
theorem sd_rs1 {post : Int32 → St2 → Prop} {i n m d k c a b : Nat} (hm : k < m) (hm2 : m < 2 ^ 31) (hi : i < 5) (ho : a1 i = 1) (ha : a2 i = nI a) (hb : a3 i = nI b) (ha4 : a < 4) (hb4 : b < 4)
    (H : wX_resume_4 post (nI m) n (nI (d + 1)) (nI (k + 1)) pl (nI 5) lv (nI (i + 1)) 0 (nI (c + 1)) bk wy am ap ad a1 a2 a3 a4 (upd a5 a (a5 a + a5 b)) a6 a7) :
    wX_resume_4 post (nI m) (n + 1) (nI d) (nI k) pl (nI 5) lv (nI i) 0 (nI c) bk wy am ap ad a1 a2 a3 a4 a5 a6 a7 :=
  sd_rs hm hm2 hi ho (by decide) (by decide) (by decide) (fun _ h => sd_cw hi ho ha hb (by decide) (fun _ g => sd_wk1 ha4 hb4 g) h) H
theorem sd_rs2 {post : Int32 → St2 → Prop} {i n m d k c a b : Nat} (hm : k < m) (hm2 : m < 2 ^ 31) (hi : i < 5) (ho : a1 i = 2) (ha : a2 i = nI a) (hb : a3 i = nI b) (ha4 : a < 4) (hb4 : b < 4)
    (H : wX_resume_4 post (nI m) n (nI (d + 1)) (nI (k + 1)) pl (nI 5) lv (nI (i + 1)) 0 (nI (c + 1)) bk wy am ap ad a1 a2 a3 a4 (upd a5 a (a5 a - a5 b)) a6 a7) :
    wX_resume_4 post (nI m) (n + 1) (nI d) (nI k) pl (nI 5) lv (nI i) 0 (nI c) bk wy am ap ad a1 a2 a3 a4 a5 a6 a7 :=
  sd_rs hm hm2 hi ho (by decide) (by decide) (by decide) (fun _ h => sd_cw hi ho ha hb (by decide) (fun _ g => sd_wk2 ha4 hb4 g) h) H
theorem sd_rsE {post : Int32 → St2 → Prop} {i n m d k c : Nat} (hm : k < m) (hm2 : m < 2 ^ 31) (hi : i < 5) (ho : a1 i = 10)
    (H : wX_resume_4 post (nI m) n (nI (d + 1)) (nI (k + 1)) pl (nI 5) lv (nI i) 1 (nI (c + 1)) bk wy am ap ad a1 a2 a3 a4 a5 a6 a7) :
    wX_resume_4 post (nI m) (n + 1) (nI d) (nI k) pl (nI 5) lv (nI i) 0 (nI c) bk wy am ap ad a1 a2 a3 a4 a5 a6 a7 :=
  sd_rs hm hm2 hi ho (by decide) (by decide) (by decide) (fun _ h => sd_ce hi ho h) H
end
end
section
/-! ===== stepOff, run, go ===== -/
/-- the law's program: operations, registers, second operands -/
def sd_P (a1 a2 a3 : Nat → Int32) (x y : Int32) : Prop :=
  sd_C a1 ∧ a2 0 = nI 0 ∧ a2 1 = nI 1 ∧ a2 2 = nI 0 ∧ a2 3 = nI 1 ∧ a3 0 = x ∧ a3 1 = y ∧ a3 2 = nI 1 ∧ a3 3 = nI 0
/-- where the only break below 5 is at q: the reason r, the count c, the two registers -/
def sd_R (q : Nat) (x y : Int32) (r c : Nat) (r0 r1 : Int32) : Prop :=
  (q = 1 ∧ r = 2 ∧ c = 1 ∧ r0 = x ∧ r1 = 0) ∨ (q = 2 ∧ r = 2 ∧ c = 2 ∧ r0 = x ∧ r1 = y) ∨ (q = 3 ∧ r = 2 ∧ c = 3 ∧ r0 = x + y ∧ r1 = y) ∨ (q = 4 ∧ r = 2 ∧ c = 4 ∧ r0 = x + y ∧ r1 = y - (x + y)) ∨ ((q = 0 ∨ 5 ≤ q) ∧ r = 6 ∧ c = 5 ∧ r0 = x + y ∧ r1 = y - (x + y))
/-- planted at q, lifted again: the code is as before -/
theorem sd_back {a1 b1 b4 c1 : Nat → Int32} {q : Nat} (hc : sd_C a1) (k1 : ∀ j, j ≠ q → b1 j = a1 j) (k3 : q < 5 → b4 q = vp_nar .byte (a1 q)) (l1 : ∀ j, j ≠ q → c1 j = b1 j) (l2 : q < 5 → c1 q = vp_nar .byte (b4 q)) : sd_C c1 := by
  have e : ∀ j, j < 5 → c1 j = a1 j := by
    intro j hj
    by_cases h : j = q
    · subst h
      rw [l2 hj, k3 hj, sd_nar hc j hj, sd_nar hc j hj]
    · rw [l1 j h, k1 j h]
  obtain ⟨h0, h1, h2, h3, h4⟩ := hc
  exact ⟨(e 0 (by decide)).trans h0, (e 1 (by decide)).trans h1, (e 2 (by decide)).trans h2, (e 3 (by decide)).trans h3, (e 4 (by decide)).trans h4⟩
theorem sd_B1 : sd_B ((1 : Int32) <<< (nI 1 &&& 31)) 1 := fun k hk => sd_one 1 (by decide) k hk
section
variable {pl sz lv pc ov ct bk wy am ap ad : Int32} {a1 a2 a3 a4 a5 a6 a7 : Nat → Int32}
theorem sd_off {post : Int32 → St2 → Prop} {x : Int32} (hc : sd_C a1) (h2 : a2 0 = nI 0) (h3 : a3 0 = x)
    (H : ∀ a1' a4' : Nat → Int32, sd_C a1' → post (nI 1) (0, nI 5, lv, nI 1, 0, nI 1, bk, wy, am, ap, ad, a1', a2, a3, a4', upd a5 0 x, a6, a7)) :
    wpX_stepOff post (0, nI 5, lv, nI 0, 0, nI 0, bk, wy, am, ap, ad, a1, a2, a3, a4, a5, a6, a7) := by
  unfold wpX_stepOff
  dsimp only
  refine sd_suc hc.1 (br_t (by decide) (sd_plant sd_B1 (fun pl' b1 b4 k1 k2 k3 k4 => ?_)))
  dsimp only
  refine Exists.intro 2 (sd_rs0 (i := 0) (n := 1) (m := 2) (d := 0) (k := 0) (c := 0) (a := 0) (by decide) (by decide) (by decide) ((k1 0 (by decide)).trans hc.1) h2 h3 (by decide) ?_)
  refine sd_rsT (i := 1) (n := 0) (m := 2) (d := 1) (k := 1) (by decide) (by decide) (by decide) (k2 (by decide)) ?_
  dsimp only
  refine sd_lift (q := 1) k4 (fun c1 l1 l2 => ?_)
  dsimp only
  exact H c1 b4 (sd_back hc k1 k3 l1 l2)
/-- the second half of a turn: from place 1 on, a trap at q (none at 1) -/
theorem sd_ph {post : Int32 → St2 → Prop} {a0 : Nat → Int32} {x y : Int32} {q : Nat} (hP : sd_P a0 a2 a3 x y) (k1 : ∀ j, j ≠ q → a1 j = a0 j) (k2 : q < 5 → a1 q = 11) (hq : q ≠ 1)
    (H2 : q = 2 → post (nI 1) (pl, nI 5, lv, nI 2, 0, nI 2, bk, wy, am, ap, ad, a1, a2, a3, a4, upd a5 1 y, a6, a7))
    (H3 : q = 3 → post (nI 2) (pl, nI 5, lv, nI 3, 0, nI 3, bk, wy, am, ap, ad, a1, a2, a3, a4, upd (upd a5 1 y) 0 (a5 0 + y), a6, a7))
    (H4 : q = 4 → post (nI 3) (pl, nI 5, lv, nI 4, 0, nI 4, bk, wy, am, ap, ad, a1, a2, a3, a4, upd (upd (upd a5 1 y) 0 (a5 0 + y)) 1 (y - (a5 0 + y)), a6, a7))
    (H5 : (q = 0 ∨ 5 ≤ q) → post (nI 4) (pl, nI 5, lv, nI 4, 1, nI 5, bk, wy, am, ap, ad, a1, a2, a3, a4, upd (upd (upd a5 1 y) 0 (a5 0 + y)) 1 (y - (a5 0 + y)), a6, a7)) :
    wpX_resume post (pl, nI 5, lv, nI 1, 0, nI 1, bk, wy, am, ap, ad, a1, a2, a3, a4, a5, a6, a7) (nI 149) := by
  obtain ⟨⟨-, c1, c2, c3, c4⟩, -, p1, p2, p3, -, s1, s2, s3⟩ := hP
  refine Exists.intro 5 (sd_rs0 (i := 1) (n := 4) (m := 149) (d := 0) (k := 0) (c := 1) (a := 1) (by decide) (by decide) (by decide) ((k1 1 hq.symm).trans c1) p1 s1 (by decide) ?_)
  by_cases h2 : q = 2
  · exact sd_rsT (i := 2) (n := 3) (m := 149) (d := 1) (k := 1) (by decide) (by decide) (by decide) (by rw [← h2]; exact k2 (by omega)) (H2 h2)
  refine sd_rs1 (i := 2) (n := 3) (m := 149) (d := 1) (k := 1) (c := 2) (a := 0) (b := 1) (by decide) (by decide) (by decide) ((k1 2 (by omega)).trans c2) p2 s2 (by decide) (by decide) ?_
  by_cases h3 : q = 3
  · exact sd_rsT (i := 3) (n := 2) (m := 149) (d := 2) (k := 2) (by decide) (by decide) (by decide) (by rw [← h3]; exact k2 (by omega)) (H3 h3)
  refine sd_rs2 (i := 3) (n := 2) (m := 149) (d := 2) (k := 2) (c := 3) (a := 1) (b := 0) (by decide) (by decide) (by decide) ((k1 3 (by omega)).trans c3) p3 s3 (by decide) (by decide) ?_
  by_cases h4 : q = 4
  · exact sd_rsT (i := 4) (n := 1) (m := 149) (d := 3) (k := 3) (by decide) (by decide) (by decide) (by rw [← h4]; exact k2 (by omega)) (H4 h4)
  refine sd_rsE (i := 4) (n := 1) (m := 149) (d := 3) (k := 3) (c := 4) (by decide) (by decide) (by decide) ((k1 4 (by omega)).trans c4) ?_
  exact sd_rsO (n := 0) (m := 149) (d := 4) (k := 4) (by decide) (by decide) (H5 (by omega))
theorem sd_exit {post : Int32 → St2 → Prop} {n r k : Nat} {x1 x2 : Int32} (h0 : 0 < r) (hr : r < 7) (hk : k ≤ 150) (H : post (nI r) (pl, sz, lv, pc, ov, ct, bk, nI r, am, ap, ad, a1, a2, a3, a4, a5, a6, a7)) : wX_run_24 post x1 (n + 1) x2 (nI r) (nI k) pl sz lv pc ov ct bk wy am ap ad a1 a2 a3 a4 a5 a6 a7 :=
  br_f (nI_nlt (a := 150) hk (by decide)) (br_f (nI_ne0 h0 (by omega)) H)
theorem sd_run {post : Int32 → St2 → Prop} {q : Nat} {x y : Int32} (hb : sd_B bk q) (hP : sd_P a1 a2 a3 x y) (h51 : a5 1 = 0)
    (H : ∀ (r c : Nat) (pc' ov' : Int32) (a1' a4' a5' : Nat → Int32), sd_R q x y r c (a5' 0) (a5' 1) → post (nI r) (0, nI 5, lv, pc', ov', nI c, bk, nI r, 0, ap, ad, a1', a2, a3, a4', a5', a6, a7)) :
    wpX_run post (0, nI 5, lv, nI 0, 0, nI 0, bk, 0, 0, ap, ad, a1, a2, a3, a4, a5, a6, a7) 0 := by
  have hs : sd_B (bk ||| 0) q := by rw [Int32.or_zero]; exact hb
  obtain ⟨hc, hp⟩ := hP
  unfold wpX_run
  dsimp only
  refine br_t (by decide) (sd_jd0 (by decide) hc.1 (by decide) (by decide) (Exists.intro 2 ?_))
  refine br_f (by decide) (br_t rfl (sd_off hc hp.1 hp.2.2.2.2.1 (fun b1 b4 hc1 => nm_r (show (0 : Int32) + nI 1 = nI 1 by decide) ?_)))
  by_cases h1 : q = 1
  · refine sd_jdB (i := 1) (d := 1) (by decide) hc1.2.1 (by decide) (by decide) (by decide) (by decide) (fun z => (hb 1 (by decide)).mp z h1.symm) (br_f (by decide) (nm_r (show (0 : Int32) + 1 = nI 1 by decide) ?_))
    exact sd_exit (n := 0) (r := 2) (k := 1) (by decide) (by decide) (by decide) (H 2 1 _ _ _ _ _ (Or.inl ⟨h1, rfl, rfl, rfl, h51⟩))
  · refine sd_jdG (i := 1) (d := 1) (by decide) hc1.2.1 (by decide) (by decide) (by decide) (by decide) ((hb 1 (by decide)).mpr (fun z => h1 z.symm)) (br_t rfl (sd_plant hs (fun pl' e1 e4 k1 k2 k3 k4 => ?_)))
    dsimp only
    rw [show (150 : Int32) - nI 1 = nI 149 by decide]
    refine sd_ph (a0 := b1) ⟨hc1, hp⟩ k1 k2 h1 (fun hq => ?_) (fun hq => ?_) (fun hq => ?_) (fun hq => ?_)
    · refine nm_r (nI_add 1 1) (sd_lift k4 (fun g1 l1 l2 => ?_))
      have hg := sd_back hc1 k1 k3 l1 l2
      refine sd_jdB (i := 2) (d := 2) (by decide) hg.2.2.1 (by decide) (by decide) (by decide) (by decide) (fun z => (hb 2 (by decide)).mp z hq.symm) (nm_r (show (0 : Int32) + 1 = nI 1 by decide) ?_)
      exact sd_exit (n := 0) (r := 2) (k := 1) (by decide) (by decide) (by decide) (H 2 2 _ _ _ _ _ (Or.inr (Or.inl ⟨hq, rfl, rfl, rfl, rfl⟩)))
    · refine nm_r (nI_add 1 2) (sd_lift k4 (fun g1 l1 l2 => ?_))
      have hg := sd_back hc1 k1 k3 l1 l2
      refine sd_jdB (i := 3) (d := 3) (by decide) hg.2.2.2.1 (by decide) (by decide) (by decide) (by decide) (fun z => (hb 3 (by decide)).mp z hq.symm) (nm_r (show (0 : Int32) + 1 = nI 1 by decide) ?_)
      exact sd_exit (n := 0) (r := 2) (k := 1) (by decide) (by decide) (by decide) (H 2 3 _ _ _ _ _ (Or.inr (Or.inr (Or.inl ⟨hq, rfl, rfl, rfl, rfl⟩))))
    · refine nm_r (nI_add 1 3) (sd_lift k4 (fun g1 l1 l2 => ?_))
      have hg := sd_back hc1 k1 k3 l1 l2
      refine sd_jdB (i := 4) (d := 4) (by decide) hg.2.2.2.2 (by decide) (by decide) (by decide) (by decide) (fun z => (hb 4 (by decide)).mp z hq.symm) (nm_r (show (0 : Int32) + 1 = nI 1 by decide) ?_)
      exact sd_exit (n := 0) (r := 2) (k := 1) (by decide) (by decide) (by decide) (H 2 4 _ _ _ _ _ (Or.inr (Or.inr (Or.inr (Or.inl ⟨hq, rfl, rfl, rfl, rfl⟩)))))
    · refine nm_r (nI_add 1 4) (sd_lift k4 (fun g1 l1 l2 => ?_))
      refine sd_jdE (nm_r (show (0 : Int32) + 1 = nI 1 by decide) ?_)
      exact sd_exit (n := 0) (r := 6) (k := 1) (by decide) (by decide) (by decide) (H 6 5 _ _ _ _ _ (Or.inr (Or.inr (Or.inr (Or.inr ⟨hq, rfl, rfl, rfl, rfl⟩)))))
theorem sd_go {post : Int32 → St2 → Prop} {q : Nat} {x y : Int32} (hb : sd_B bk q) (hP : sd_P a1 a2 a3 x y) (h51 : a5 1 = 0)
    (H : ∀ (r c : Nat) (pc' ov' : Int32) (a1' a4' a5' : Nat → Int32), sd_R q x y r c (a5' 0) (a5' 1) → post (nI r) (0, nI 5, lv, pc', ov', nI c, bk, nI r, 0, ap, ad, a1', a2, a3, a4', a5', a6, a7)) :
    wpX_go post (0, nI 5, lv, nI 0, 0, nI 0, bk, 0, am, ap, ad, a1, a2, a3, a4, a5, a6, a7) := by
  unfold wpX_go
  dsimp only
  exact sd_run hb hP h51 H
end
end
section
/-! ===== emit, breakAt, the law ===== -/
theorem sd_lt01 {p : Int32} (h : p < 0) : p < 1 := by
  have h := Int32.lt_iff_toInt_lt.mp h
  have e0 : (0 : Int32).toInt = 0 := by decide
  have e1 : (1 : Int32).toInt = 1 := by decide
  exact Int32.lt_iff_toInt_lt.mpr (by omega)
theorem sd_ge20 {p : Int32} (h : nI 20 ≤ p) : ¬ p < 0 ∧ ¬ p < 20 ∧ 4 < p := by
  have h := Int32.le_iff_toInt_le.mp h
  have e : (nI 20).toInt = 20 := by decide
  have e0 : (0 : Int32).toInt = 0 := by decide
  have e4 : (4 : Int32).toInt = 4 := by decide
  have e20 : (20 : Int32).toInt = 20 := by decide
  refine ⟨fun z => ?_, fun z => ?_, Int32.lt_iff_toInt_lt.mpr (by omega)⟩
  · have z := Int32.lt_iff_toInt_lt.mp z
    omega
  · have z := Int32.lt_iff_toInt_lt.mp z
    omega
theorem sd_neg (x y : Int32) : y - (x + y) = -x := by grind
section
variable {pl sz lv pc ov ct bk wy am ap ad : Int32} {a1 a2 a3 a4 a5 a6 a7 : Nat → Int32}
theorem sd_e67 {post : Int32 → St2 → Prop} {k : Nat} {x1 x2 x3 : Int32} (hk : k < 20) (H : post (nI (k + 1) - 1) (pl, nI (k + 1), lv, pc, ov, ct, bk, wy, am, ap, ad, upd a1 k x1.toInt8.toInt32, upd a2 k x2.toInt8.toInt32, upd a3 k x3, a4, a5, a6, a7)) :
    wX_emit_67 post x1 x2 x3 pl (nI k) lv pc ov ct bk wy am ap ad a1 a2 a3 a4 a5 a6 a7 :=
  ⟨vp_in_nI hk (by decide), nm_r (by rw [nI_clamp (by omega)]) ⟨vp_in_nI hk (by decide), nm_r (by rw [nI_clamp (by omega)]) ⟨vp_in_nI hk (by decide), nm_r (by rw [nI_clamp (by omega)]) (nm_r (nI_1 k) H)⟩⟩⟩
theorem sd_em0 {post : Int32 → St2 → Prop} {k : Nat} {a b : Int32} (hk : k < 20) (ha : ¬ a < 0) (ha3 : ¬ 3 < a) (H : post (nI (k + 1) - 1) (pl, nI (k + 1), lv, pc, ov, ct, bk, wy, am, ap, ad, upd a1 k (0 : Int32).toInt8.toInt32, upd a2 k a.toInt8.toInt32, upd a3 k b, a4, a5, a6, a7)) :
    wpX_emit post (pl, nI k, lv, pc, ov, ct, bk, wy, am, ap, ad, a1, a2, a3, a4, a5, a6, a7) 0 a b :=
  br_t (nI_lt (b := 20) hk (by decide)) (br_f (by decide) (br_t (by decide) (br_t (by decide) (br_f ha (br_f ha3 (br_t rfl (sd_e67 hk H)))))))
theorem sd_em1 {post : Int32 → St2 → Prop} {k : Nat} {o a b : Int32} (hk : k < 20) (o0 : ¬ o < 0) (o10 : o ≤ 10) (o1 : ¬ o < 1) (o4 : ¬ 4 < o) (ha : ¬ a < 0) (ha3 : ¬ 3 < a) (hb : ¬ b < 0) (hb3 : b ≤ 3) (H : post (nI (k + 1) - 1) (pl, nI (k + 1), lv, pc, ov, ct, bk, wy, am, ap, ad, upd a1 k o.toInt8.toInt32, upd a2 k a.toInt8.toInt32, upd a3 k b, a4, a5, a6, a7)) :
    wpX_emit post (pl, nI k, lv, pc, ov, ct, bk, wy, am, ap, ad, a1, a2, a3, a4, a5, a6, a7) o a b :=
  br_t (nI_lt (b := 20) hk (by decide)) (br_f o0 (br_t o10 (br_f o1 (br_f o4 (br_f ha (br_f ha3 (br_f (by decide) (br_f hb (br_t hb3 (sd_e67 hk H))))))))))
theorem sd_em10 {post : Int32 → St2 → Prop} {k : Nat} {o a b : Int32} (hk : k < 20) (o0 : ¬ o < 0) (o10 : o ≤ 10) (o1 : ¬ o < 1) (o4 : 4 < o) (ha : ¬ a < 0) (ha3 : ¬ 3 < a) (H : post (nI (k + 1) - 1) (pl, nI (k + 1), lv, pc, ov, ct, bk, wy, am, ap, ad, upd a1 k o.toInt8.toInt32, upd a2 k a.toInt8.toInt32, upd a3 k b, a4, a5, a6, a7)) :
    wpX_emit post (pl, nI k, lv, pc, ov, ct, bk, wy, am, ap, ad, a1, a2, a3, a4, a5, a6, a7) o a b :=
  br_t (nI_lt (b := 20) hk (by decide)) (br_f o0 (br_t o10 (br_f o1 (br_t o4 (br_f ha (br_f ha3 (br_t rfl (sd_e67 hk H))))))))
theorem sd_bk {post : Int32 → St2 → Prop} {p : Int32} (H : ∀ (r b : Int32) (q : Nat), sd_B b q → (1 ≤ q → q ≤ 4 → p = nI q) → ((q = 0 ∨ 5 ≤ q) → p < 1 ∨ 4 < p) → post r (pl, sz, lv, pc, ov, ct, b, wy, am, ap, ad, a1, a2, a3, a4, a5, a6, a7)) : wpX_breakAt post (pl, sz, lv, pc, ov, ct, 0, wy, am, ap, ad, a1, a2, a3, a4, a5, a6, a7) p 1 := by
  rcases pk_ix p (n := 20) (by decide) with h | h | ⟨j, hj, rfl⟩
  · exact br_t h (H 0 0 20 (sd_zero (by decide)) (fun _ z => absurd z (by decide)) (fun _ => Or.inl (sd_lt01 h)))
  · obtain ⟨g0, g20, g4⟩ := sd_ge20 h
    exact br_f g0 (br_f g20 (H 0 0 20 (sd_zero (by decide)) (fun _ z => absurd z (by decide)) (fun _ => Or.inr g4)))
  · refine br_f (nI_pos (by omega)) (br_t (nI_lt (b := 20) hj (by decide)) (br_f (by decide) (nm_e (H 1 _ j (sd_one j hj) (fun _ _ => rfl) (fun z => ?_)))))
    rcases z with rfl | z
    · exact Or.inl (by decide)
    · exact Or.inr (nI_lt (a := 4) (by omega) (by omega))
end
theorem sd_fin {post : Int32 → St0 → Prop} {mc ms kc ks q r c : Nat} {x y p r0 r1 : Int32} (hR : sd_R q x y r c r0 r1) (hp : 1 ≤ q → q ≤ 4 → p = nI q) (hn : (q = 0 ∨ 5 ≤ q) → p < 1 ∨ 4 < p) (H : post 1 ()) :
    ((p < 1 → wL_lawOf_96 post mc ms x y p (nI r) (nI c) r0 r1 kc ks) ∧ (¬ p < 1 → ((4 < p → wL_lawOf_96 post mc ms x y p (nI r) (nI c) r0 r1 kc ks) ∧ (¬ 4 < p → wL_lawOf_97 post mc ms x y p (nI r) (nI c) r0 r1 1 kc ks)))) := by
  rcases hR with ⟨rfl, rfl, rfl, rfl, rfl⟩ | ⟨rfl, rfl, rfl, rfl, rfl⟩ | ⟨rfl, rfl, rfl, rfl, rfl⟩ | ⟨rfl, rfl, rfl, rfl, e⟩ | ⟨hq, rfl, rfl, rfl, e⟩
  · rw [hp (by decide) (by decide)]
    exact br_f (by decide) (br_f (by decide) (br_f (by decide) (br_f (by decide) (br_t rfl (br_t rfl (br_t (by decide) (br_t rfl (br_t (by decide) (br_t (by decide) (br_t rfl H))))))))))
  · rw [hp (by decide) (by decide)]
    exact br_f (by decide) (br_f (by decide) (br_f (by decide) (br_f (by decide) (br_t rfl (br_t rfl (br_t (by decide) (br_t rfl (br_t (by decide) (br_f (by decide) (br_t rfl H))))))))))
  · rw [hp (by decide) (by decide)]
    exact br_f (by decide) (br_f (by decide) (br_f (by decide) (br_f (by decide) (br_t rfl (br_t rfl (br_f (by decide) (br_t rfl (br_t (by decide) (br_f (by decide) (br_t rfl H))))))))))
  · rw [hp (by decide) (by decide)]
    exact br_f (by decide) (br_f (by decide) (br_f (by decide) (br_f (by decide) (br_t rfl (br_t rfl (br_f (by decide) (br_t rfl (br_f (by decide) (br_t (e.trans (sd_neg x y)) H)))))))))
  · have E : wL_lawOf_96 post mc ms x y p (nI 6) (nI 5) (x + y) r1 kc ks :=
      br_t rfl (br_t rfl (br_t rfl (br_t rfl (br_f (by decide) (br_t rfl (br_f (by decide) (br_t (e.trans (sd_neg x y)) H)))))))
    exact br_c (fun _ => E) (fun h1 => br_c (fun _ => E) (fun h4 => absurd (hn hq) (fun z => z.elim h1 h4)))
theorem sd_pk {post : Int32 → Prop} {pl sz lv pc ov ct bk wy am ap ad : Int32} {a1 a2 a3 a4 a5 a6 a7 : Nat → Int32} {i : Nat} (hi : i < 4) (H : post (a5 i)) : wpX_peek post (pl, sz, lv, pc, ov, ct, bk, wy, am, ap, ad, a1, a2, a3, a4, a5, a6, a7) (nI i) :=
  br_f (nI_pos (by omega)) (br_f (nI_ge (b := 4) hi (by decide)) ⟨vp_in_nI hi (by decide), by rw [nI_clamp (by omega)]; exact H⟩)
theorem sd_cell {post : Int32 → Prop} {L : Nat} {xs : Nat → Int32} (hL : L ≤ 3) (i : Nat) (hi : i < 3) (H : ∀ v, post v) : wpL_cellAt post L xs () (nI i) :=
  pk_le L i (fun _ => H _) (fun z => ⟨vp_in_nI z (by omega), H _⟩)
theorem sd_law {post : Int32 → St0 → Prop} {x y p : Int32} (H : post 1 ()) : wpL_lawOf post 8 116 () x y p := by
  refine ⟨by decide, by decide, 7, 98, by decide, by decide, ?_⟩
  refine ⟨by decide, by decide, by decide, by decide, by decide, by decide, by decide, by decide, by decide, by decide, by decide, by decide, by decide, by decide, ?_⟩
  dsimp only
  refine sd_em0 (k := 0) (by decide) (by decide) (by decide) ?_
  dsimp only
  refine sd_em0 (k := 1) (by decide) (by decide) (by decide) ?_
  dsimp only
  refine sd_em1 (k := 2) (by decide) (by decide) (by decide) (by decide) (by decide) (by decide) (by decide) (by decide) (by decide) ?_
  dsimp only
  refine sd_em1 (k := 3) (by decide) (by decide) (by decide) (by decide) (by decide) (by decide) (by decide) (by decide) (by decide) ?_
  dsimp only
  refine sd_em10 (k := 4) (by decide) (by decide) (by decide) (by decide) (by decide) (by decide) (by decide) ?_
  dsimp only
  refine sd_bk (fun r b q hb hp hn => ?_)
  dsimp only
  refine sd_go (x := x) (y := y) hb ⟨⟨by decide, by decide, by decide, by decide, by decide⟩, by decide, by decide, by decide, by decide, rfl, rfl, rfl, rfl⟩ rfl (fun r c pc' ov' a1' a4' a5' hR => ?_)
  dsimp only
  exact sd_pk (i := 0) (by decide) (sd_pk (i := 1) (by decide) (sd_fin hR hp hn H))
theorem i_vc (xs : Nat → Int32) (L : Nat) (hL : L ≤ 3) : wpL_law (fun r => r = 1) L xs :=
  sd_cell hL 0 (by decide) (fun x => sd_cell hL 1 (by decide) (fun y => sd_cell hL 2 (by decide) (fun p => ⟨8, 116, by decide, by decide, sd_law rfl⟩)))
end
