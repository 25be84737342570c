section
/-! registers: a number outside 0..7, or a place below 8 -/
def cd_out (x : Int32) : Prop := x < 0 ∨ 7 < x
theorem cd_dich (x : Int32) : cd_out x ∨ ∃ i : Nat, i < 8 ∧ x = nI i := by
  by_cases h : x < 0
  · exact Or.inl (Or.inl h)
  · by_cases h7 : 7 < x
    · exact Or.inl (Or.inr h7)
    · obtain ⟨j, hj, e⟩ := nI_of2 (M := 7) (n := 7) (by decide) h (Int32.not_lt.mp h7)
      exact Or.inr ⟨j, by omega, e⟩
theorem cd_oNe {x : Int32} {j : Nat} (h : cd_out x) (hj : j < 8) : ¬ x = nI j := by
  intro e
  subst e
  rcases h with h | h
  · exact nI_pos (by omega) h
  · exact nI_nlt (a := 7) (b := j) (by omega) (by decide) h
theorem cd_nIne {i j : Nat} (hi : i < 8) (hj : j < 8) (h : i ≠ j) : ¬ nI i = nI j :=
  fun e => h ((nI_eq (by omega) (by omega)).mp e)
theorem cd_updIf {f : Nat → Int32} {x : Int32} {i j : Nat} (hi : i < 8) (hj : j < 8) : upd f i x j = if nI i = nI j then x else f j := by
  by_cases e : i = j
  · subst e
    rw [pk_us, if_pos rfl]
  · rw [pk_un (Ne.symm e), if_neg (cd_nIne hi hj e)]
theorem cd_badO {post : Int32 → Prop} {u : St2} {p0 : Int32} (h : cd_out p0) (hp : post 1) : wpX_bad post u p0 := by
  obtain ⟨f1, f2, f3, f4, f5, a1, a2, a3, a4, a5, a6, a7⟩ := u
  exact br_c (fun _ => hp) (fun h0 => br_f (Int32.not_le.mpr (h.resolve_left h0)) hp)
theorem cd_badI {post : Int32 → Prop} {u : St2} {i : Nat} (hi : i < 8) (hp : post 0) : wpX_bad post u (nI i) := by
  obtain ⟨f1, f2, f3, f4, f5, a1, a2, a3, a4, a5, a6, a7⟩ := u
  exact br_f (nI_pos (by omega)) (br_t (nI_le (b := 7) (by omega) (by decide)) hp)
section
variable {f1 f2 f3 f4 f5 : Int32} {a1 a2 a3 a4 a5 : Nat → Int32} {a6 a7 : Nat → Int64}
theorem cd_setReg {post : St2 → Prop} {i : Nat} {t c : Int32} (hi : i < 8) (hp : post (f1, f2, f3, f4, f5, a1, a2, a3, upd a4 i t, upd a5 i c, a6, a7)) : wpX_setReg post (f1, f2, f3, f4, f5, a1, a2, a3, a4, a5, a6, a7) (nI i) t c := by
  unfold wpX_setReg
  exact ⟨pk_in i 8 hi, nm_r (by rw [nI_clamp (by omega)]) ⟨pk_in i 8 hi, nm_r (by rw [nI_clamp (by omega)]) hp⟩⟩
theorem cd_number {post : Int32 → St2 → Prop} {p0 p1 : Int32}
    (H : ∀ (r : Int32) (t c : Nat → Int32), (∀ j, j < 8 → t j = if p0 = nI j then 1 else a4 j) → (∀ j, j < 8 → c j = if p0 = nI j then p1 else a5 j) → post r (f1, f2, f3, f4, f5, a1, a2, a3, t, c, a6, a7)) :
    wpX_number post (f1, f2, f3, f4, f5, a1, a2, a3, a4, a5, a6, a7) p0 p1 := by
  unfold wpX_number
  rcases cd_dich p0 with ho | ⟨i, hi, rfl⟩
  · refine cd_badO ho (br_f (by decide) (H (-1) a4 a5 (fun j hj => ?_) (fun j hj => ?_)))
    · rw [if_neg (cd_oNe ho hj)]
    · rw [if_neg (cd_oNe ho hj)]
  · refine cd_badI hi (br_t rfl (cd_setReg hi (H 0 _ _ (fun j hj => ?_) (fun j hj => ?_))))
    · exact cd_updIf hi hj
    · exact cd_updIf hi hj
end
end
section
/-! cells, the copying of the one pair, and collect -/
section
variable {f1 f2 f3 f4 f5 : Int32} {a1 a2 a3 a4 a5 : Nat → Int32} {a6 a7 : Nat → Int64}
theorem cd_inOld {post : Int32 → Prop} {B c : Nat} (hB : B ≤ 160) (h1 : B ≤ c) (h2 : c < B + 160) (hp : post 1) : wpX_inOld post (nI B, f2, f3, f4, f5, a1, a2, a3, a4, a5, a6, a7) (nI c) := by
  unfold wpX_inOld
  have e : nI B + 160 = nI (B + 160) := nI_add B 160
  exact br_f (nI_nlt h1 (by omega)) (br_f (by rw [e]; exact nI_ge h2 (by omega)) hp)
theorem cd_trace {post : Int32 → Prop} {B c : Nat} (hB : B ≤ 160) (h1 : B ≤ c) (h2 : c < B + 160) (h : a1 c ≠ 3) (hp : post (nI c)) : wpX_trace post (nI B, f2, f3, f4, f5, a1, a2, a3, a4, a5, a6, a7) (nI c) := by
  unfold wpX_trace
  refine ⟨0 + 1, ?_⟩
  refine br_f (by decide) (cd_inOld hB h1 h2 (br_f (by decide) ⟨pk_in c 320 (by omega), br_f ?_ hp⟩))
  rw [nI_clamp (by omega)]
  exact h
theorem cd_settle {post : Int32 → Prop} {c : Nat} (hc : c < 320) (h : a1 c ≠ 3) (hp : post (nI c)) : wpX_settle post (f1, f2, f3, f4, f5, a1, a2, a3, a4, a5, a6, a7) (nI c) := by
  unfold wpX_settle
  refine ⟨0 + 1, ?_⟩
  refine br_f (by decide) ⟨pk_in c 320 hc, br_f ?_ hp⟩
  rw [nI_clamp (by omega)]
  exact h
theorem cd_put2 {post : St2 → Prop} {c : Nat} {t v : Int32} (hc : c < 320) (hp : post (f1, f2, f3, f4, f5, upd a1 c t, upd a2 c v, a3, a4, a5, a6, a7)) : wpX_put_2 post (f1, f2, f3, f4, f5, a1, a2, a3, a4, a5, a6, a7) (nI c) t v := by
  unfold wpX_put_2
  exact ⟨pk_in c 320 hc, nm_r (by rw [nI_clamp (by omega)]) ⟨pk_in c 320 hc, nm_r (by rw [nI_clamp (by omega)]) hp⟩⟩
theorem cd_put3 {post : St2 → Prop} {c : Nat} {t v : Int32} (hc : c < 320) (hp : post (f1, f2, f3, f4, f5, upd a1 c t, upd a2 c v, a3, a4, a5, a6, a7)) : wpX_put_3 post (f1, f2, f3, f4, f5, a1, a2, a3, a4, a5, a6, a7) (nI c) t v := by
  unfold wpX_put_3
  exact ⟨pk_in c 320 hc, nm_r (by rw [nI_clamp (by omega)]) ⟨pk_in c 320 hc, nm_r (by rw [nI_clamp (by omega)]) hp⟩⟩
theorem cd_gotCdr2 {post : St2 → Prop} {c : Nat} {t v : Int32} (hc : c + 1 < 320) (h1 : a1 c ≠ 3) (h3 : a3 c = 0) (ht : a1 (c + 1) = t) (hv : a2 (c + 1) = v) (hp : post (f1, f2, f3, t, v, a1, a2, a3, a4, a5, a6, a7)) : wpX_gotCdr_2 post (f1, f2, f3, f4, f5, a1, a2, a3, a4, a5, a6, a7) (nI c) := by
  unfold wpX_gotCdr_2
  refine cd_settle (by omega) h1 ⟨pk_in c 320 (by omega), br_t (by rw [nI_clamp (by omega)]; exact h3) ?_⟩
  exact ⟨pk_in (c + 1) 320 hc (nI_1 c), nm_r (by rw [nI_1, nI_clamp (by omega)]; exact ht) ⟨pk_in (c + 1) 320 hc (nI_1 c), nm_r (by rw [nI_1, nI_clamp (by omega)]; exact hv) hp⟩⟩
theorem cd_gotCdr3 {post : St2 → Prop} {c : Nat} {t v : Int32} (hc : c + 1 < 320) (h1 : a1 c ≠ 3) (h3 : a3 c = 0) (ht : a1 (c + 1) = t) (hv : a2 (c + 1) = v) (hp : post (f1, f2, f3, t, v, a1, a2, a3, a4, a5, a6, a7)) : wpX_gotCdr_3 post (f1, f2, f3, f4, f5, a1, a2, a3, a4, a5, a6, a7) (nI c) := by
  unfold wpX_gotCdr_3
  refine cd_settle (by omega) h1 ⟨pk_in c 320 (by omega), br_t (by rw [nI_clamp (by omega)]; exact h3) ?_⟩
  exact ⟨pk_in (c + 1) 320 hc (nI_1 c), nm_r (by rw [nI_1, nI_clamp (by omega)]; exact ht) ⟨pk_in (c + 1) 320 hc (nI_1 c), nm_r (by rw [nI_1, nI_clamp (by omega)]; exact hv) hp⟩⟩
/-- the pair of cells B, B + 1 goes to cells T, T + 1 -/
theorem cd_carry2 {post : Int32 → St2 → Prop} {B T : Nat} (hT : B + T = 160) (h0 : B = 0 ∨ T = 0) (h1 : a1 B = 1) (h1' : a1 (B + 1) = 1) (h3 : a3 B = 0)
    (H : ∀ A1 A2 A3 : Nat → Int32, A1 T = 1 → A1 (T + 1) = 1 → A2 T = a2 B → A2 (T + 1) = a2 (B + 1) → A3 T = 0 → post (nI T) (nI B, nI (T + 2), 1, 1, a2 (B + 1), A1, A2, A3, a4, a5, a6, a7)) :
    wpX_carry_2 post (nI B, nI T, 0, f4, f5, a1, a2, a3, a4, a5, a6, a7) (nI B) := by
  unfold wpX_carry_2
  refine cd_trace (by omega) (by omega) (by omega) (by rw [h1]; decide) (cd_inOld (by omega) (by omega) (by omega) (br_f (by decide) ⟨0 + 1 + 1, ?_⟩))
  refine br_f (by decide) (br_f (by decide) (nm_r (nI_1 T) (nm_r (show (0 : Int32) + 1 = 1 by decide) ⟨pk_in B 320 (by omega), pk_in B 320 (by omega), ?_⟩)))
  rw [nI_clamp (show B < 2 ^ 31 by omega), h1]
  refine cd_put2 (by omega) ?_
  refine cd_gotCdr2 (t := 1) (v := a2 (B + 1)) (by omega) (by rw [pk_un (by omega), h1]; decide) h3 (by rw [pk_un (by omega), h1']) (by rw [pk_un (by omega)]) ?_
  refine cd_put2 (by omega) ?_
  refine br_f (by decide) ?_
  refine br_f (by decide) (br_f (by decide) ?_)
  refine ⟨pk_in T 320 (by omega), nm_r (e' := upd a3 T 0) (by rw [nI_clamp (by omega)]) (br_f (by decide) ?_)⟩
  refine cd_put2 (by omega) ?_
  refine ⟨pk_in (T + 1) 320 (by omega), nm_r (e' := upd (upd a3 T 0) (T + 1) 2) (by rw [nI_clamp (by omega)]) (nm_r (nI_1 (T + 1)) (nm_r (show (0 : Int32) + 1 = 1 by decide) ?_))⟩
  refine br_f (by decide) (br_t rfl (H _ _ _ ?_ ?_ ?_ ?_ ?_))
  · rw [pk_un (by omega), pk_un (by omega), pk_us]
  · rw [pk_us]
  · rw [pk_un (by omega), pk_un (by omega), pk_us]
  · rw [pk_us]
  · rw [pk_un (by omega), pk_us]
/-- collect's loop over the registers passes those without a pair -/
theorem cd_skip {post : St2 → Prop} {x1 : Int32} (n : Nat) : ∀ d i : Nat, i + d ≤ 8 → (∀ j, i ≤ j → j < i + d → a4 j ≠ 2) → wX_collect_21 post x1 n (nI (i + d)) f1 f2 f3 f4 f5 a1 a2 a3 a4 a5 a6 a7 → wX_collect_21 post x1 (n + d) (nI i) f1 f2 f3 f4 f5 a1 a2 a3 a4 a5 a6 a7 := by
  intro d
  induction d with
  | zero => exact fun i _ _ h => h
  | succ d ih =>
    intro i hi h4 h
    have h' : wX_collect_21 post x1 (n + d) (nI (i + 1)) f1 f2 f3 f4 f5 a1 a2 a3 a4 a5 a6 a7 := ih (i + 1) (by omega) (fun j h1 h2 => h4 j (by omega) (by omega)) (by rw [show i + 1 + d = i + (d + 1) by omega]; exact h)
    refine br_f (nI_ge (b := 8) (by omega) (by decide)) ⟨pk_in i 8 (by omega), br_f ?_ (nm_r (nI_1 i) h')⟩
    rw [nI_clamp (by omega)]
    exact h4 i (by omega) (by omega)
theorem cd_collectN {post : St2 → Prop} {B : Nat} (hB : B ≤ 160) (h4 : ∀ j, j < 8 → a4 j ≠ 2) (hp : post (nI (160 - B), nI (160 - B), 0, f4, f5, a1, a2, a3, a4, a5, a6, a7)) : wpX_collect post (nI B, f2, f3, f4, f5, a1, a2, a3, a4, a5, a6, a7) := by
  unfold wpX_collect
  refine nm_r (pk_sub (a := 160) (b := B) hB) ⟨0 + 1 + 8, cd_skip (0 + 1) 8 0 (by omega) (fun j _ h => h4 j (by omega)) ?_⟩
  refine br_t (by decide) ⟨0 + 1, ?_⟩
  exact br_f (by decide) (br_t (nI_le (Nat.le_refl _) (by omega)) hp)
theorem cd_collectP {post : St2 → Prop} {B T k : Nat} (hT : B + T = 160) (h0 : B = 0 ∨ T = 0) (hk : k < 8) (h4 : a4 k = 2) (h4' : ∀ j, j < 8 → j ≠ k → a4 j ≠ 2) (h5 : a5 k = nI B) (h1 : a1 B = 1) (h1' : a1 (B + 1) = 1) (h3 : a3 B = 0)
    (H : ∀ A1 A2 A3 : Nat → Int32, A1 T = 1 → A1 (T + 1) = 1 → A2 T = a2 B → A2 (T + 1) = a2 (B + 1) → A3 T = 0 → post (nI T, nI (T + 2), 1, 1, a2 (B + 1), A1, A2, A3, a4, upd a5 k (nI T), a6, a7)) :
    wpX_collect post (nI B, f2, f3, f4, f5, a1, a2, a3, a4, a5, a6, a7) := by
  unfold wpX_collect
  refine nm_r (e' := nI T) (by rw [show T = 160 - B by omega]; exact pk_sub (a := 160) (b := B) (by omega)) ⟨0 + 1 + (7 - k) + 1 + k, cd_skip (0 + 1 + (7 - k) + 1) k 0 (by omega) (fun j _ h => h4' j (by omega) (by omega)) ?_⟩
  rw [Nat.zero_add k]
  refine br_f (nI_ge (b := 8) hk (by decide)) ⟨pk_in k 8 hk, br_t (by rw [nI_clamp (by omega)]; exact h4) ⟨pk_in k 8 hk, ?_⟩⟩
  rw [nI_clamp (show k < 2 ^ 31 by omega), h5]
  refine cd_carry2 hT h0 h1 h1' h3 (fun A1 A2 A3 e1 e2 e3 e4 e5 => ⟨pk_in k 8 hk, nm_r (e' := upd a5 k (nI T)) rfl (nm_r (nI_1 k) ?_)⟩)
  refine cd_skip (0 + 1) (7 - k) (k + 1) (by omega) (fun j g1 g2 => h4' j (by omega) (by omega)) ?_
  rw [show k + 1 + (7 - k) = 8 by omega]
  refine br_t (by decide) ⟨0 + 1 + 1 + 1, ?_⟩
  refine br_f (by decide) (br_f (nI_ge (by omega) (by omega)) ⟨pk_in T 320 (by omega), br_f (by rw [nI_clamp (by omega), e1]; decide) (nm_r (nI_1 T) (nm_r (show (0 : Int32) + 1 = 1 by decide) ?_))⟩)
  refine br_f (by decide) (br_f (nI_ge (by omega) (by omega)) ⟨pk_in (T + 1) 320 (by omega), br_f (by rw [nI_clamp (by omega), e2]; decide) (nm_r (nI_1 (T + 1)) (nm_r (show (1 : Int32) + 1 = 2 by decide) ?_))⟩)
  exact br_f (by decide) (br_t (nI_le (Nat.le_refl _) (by omega)) (H A1 A2 A3 e1 e2 e3 e4 e5))
end
end
section
/-! the methods, a lemma a road -/
section
variable {f1 f2 f3 f4 f5 : Int32} {a1 a2 a3 a4 a5 : Nat → Int32} {a6 a7 : Nat → Int64}
theorem cd_consO {post : Int32 → St2 → Prop} {p0 p1 p2 : Int32} (h : cd_out p0 ∨ cd_out p1 ∨ cd_out p2) (hp : post (-1) (f1, f2, f3, f4, f5, a1, a2, a3, a4, a5, a6, a7)) : wpX_cons post (f1, f2, f3, f4, f5, a1, a2, a3, a4, a5, a6, a7) p0 p1 p2 := by
  unfold wpX_cons
  rcases cd_dich p0 with h0 | ⟨i, hi, rfl⟩
  · exact cd_badO h0 (br_f (by decide) hp)
  · refine cd_badI hi (br_t rfl ?_)
    rcases cd_dich p1 with h1 | ⟨j, hj, rfl⟩
    · exact cd_badO h1 (br_f (by decide) hp)
    · refine cd_badI hj (br_t rfl ?_)
      have h2 : cd_out p2 := by
        rcases h with h | h | h
        · exact absurd rfl (cd_oNe h hi)
        · exact absurd rfl (cd_oNe h hj)
        · exact h
      exact cd_badO h2 (br_f (by decide) hp)
theorem cd_consI {post : Int32 → St2 → Prop} {i j k : Nat} (hi : i < 8) (hj : j < 8) (hk : k < 8) (hb : a4 j ≠ 0)
    (H : ∀ A1 A2 A3 : Nat → Int32, A1 0 = a4 i → A1 1 = a4 j → A2 0 = a5 i → A2 1 = a5 j → A3 0 = 0 → post 0 (0, 2, 1, f4, f5, A1, A2, A3, upd a4 k 2, upd a5 k 0, a6, a7)) :
    wpX_cons post (0, 0, 0, f4, f5, a1, a2, a3, a4, a5, a6, a7) (nI k) (nI i) (nI j) := by
  unfold wpX_cons
  refine cd_badI hk (br_t rfl (cd_badI hi (br_t rfl (cd_badI hj (br_t rfl ?_)))))
  unfold wpX_mayMake
  refine br_t (by decide) (br_f (by decide) ?_)
  refine br_f (by decide) ?_
  unfold wpX_need
  refine br_t (by decide) ⟨pk_in i 8 hi, pk_in i 8 hi, ?_⟩
  rw [nI_clamp (show i < 2 ^ 31 by omega), nI_clamp (show j < 2 ^ 31 by omega)]
  refine cd_put3 (c := 0) (by decide) ?_
  refine nm_r (e' := 1) (by decide) ⟨pk_in j 8 hj, br_f hb ⟨pk_in 0 320 (by decide), nm_r (e' := upd a3 0 0) (by rw [sb_cl0]) ⟨pk_in j 8 hj, pk_in j 8 hj, ?_⟩⟩⟩
  refine cd_put3 (c := 1) (by decide) ?_
  refine nm_r (e' := 2) (by decide) (nm_r (e' := 1) (by decide) ?_)
  refine cd_setReg hk (H _ _ _ ?_ ?_ ?_ ?_ ?_)
  · rw [pk_un (by decide), pk_us]
  · rw [pk_us]
  · rw [pk_un (by decide), pk_us]
  · rw [pk_us]
  · rw [pk_us]
theorem cd_kindO {post : Int32 → Prop} {p0 : Int32} (h : cd_out p0) (hp : post (-1)) : wpX_kind post (f1, f2, f3, f4, f5, a1, a2, a3, a4, a5, a6, a7) p0 := by
  unfold wpX_kind
  exact cd_badO h (br_f (by decide) hp)
theorem cd_kindI {post : Int32 → Prop} {k : Nat} {x : Int32} (hk : k < 8) (hx : a4 k = x) (hp : post x) : wpX_kind post (f1, f2, f3, f4, f5, a1, a2, a3, a4, a5, a6, a7) (nI k) := by
  unfold wpX_kind
  refine cd_badI hk (br_t rfl ⟨pk_in k 8 hk, ?_⟩)
  rw [nI_clamp (show k < 2 ^ 31 by omega), hx]
  exact hp
theorem cd_spineN {post : Int32 → St2 → Prop} {k : Nat} (hk : k < 8) (h : a4 k ≠ 2) (hp : post 0 (f1, f2, f3, a4 k, a5 k, a1, a2, a3, a4, a5, a6, a7)) : wpX_spine post (f1, f2, f3, f4, f5, a1, a2, a3, a4, a5, a6, a7) (nI k) := by
  unfold wpX_spine
  exact ⟨pk_in k 8 hk, nm_r (e' := a4 k) (by rw [nI_clamp (by omega)]) ⟨pk_in k 8 hk, nm_r (e' := a5 k) (by rw [nI_clamp (by omega)]) ⟨0 + 1, br_f (by decide) (br_f h hp)⟩⟩⟩
theorem cd_spineP {post : Int32 → St2 → Prop} {k c : Nat} (hk : k < 8) (hc : c + 1 < 320) (h4 : a4 k = 2) (h5 : a5 k = nI c) (h1 : a1 c = 1) (h1' : a1 (c + 1) = 1) (h3 : a3 c = 0) (hp : post 1 (f1, f2, f3, 1, a2 (c + 1), a1, a2, a3, a4, a5, a6, a7)) : wpX_spine post (f1, f2, f3, f4, f5, a1, a2, a3, a4, a5, a6, a7) (nI k) := by
  unfold wpX_spine
  refine ⟨pk_in k 8 hk, nm_r (e' := 2) (by rw [nI_clamp (by omega)]; exact h4) ⟨pk_in k 8 hk, nm_r (e' := nI c) (by rw [nI_clamp (by omega)]; exact h5) ⟨0 + 1 + 1, ?_⟩⟩⟩
  refine br_f (by decide) (br_t rfl (cd_gotCdr3 hc (by rw [h1]; decide) h3 h1' rfl ?_))
  exact nm_r (e' := 1) (by decide) (nm_r (e' := 1) (by decide) (br_f (by decide) (br_f (by decide) hp)))
theorem cd_lengthO {post : Int32 → St2 → Prop} {p0 : Int32} (h : cd_out p0) (hp : post (-1) (f1, f2, f3, f4, f5, a1, a2, a3, a4, a5, a6, a7)) : wpX_length post (f1, f2, f3, f4, f5, a1, a2, a3, a4, a5, a6, a7) p0 := by
  unfold wpX_length
  exact cd_badO h (br_f (by decide) hp)
theorem cd_lengthN {post : Int32 → St2 → Prop} {k : Nat} (hk : k < 8) (h : a4 k ≠ 2) (hp : post 0 (f1, f2, f3, a4 k, a5 k, a1, a2, a3, a4, a5, a6, a7)) : wpX_length post (f1, f2, f3, f4, f5, a1, a2, a3, a4, a5, a6, a7) (nI k) := by
  unfold wpX_length
  exact cd_badI hk (br_t rfl (cd_spineN hk h (br_t (by decide) hp)))
theorem cd_lengthP {post : Int32 → St2 → Prop} {k c : Nat} (hk : k < 8) (hc : c + 1 < 320) (h4 : a4 k = 2) (h5 : a5 k = nI c) (h1 : a1 c = 1) (h1' : a1 (c + 1) = 1) (h3 : a3 c = 0) (hp : post 1 (f1, f2, f3, 1, a2 (c + 1), a1, a2, a3, a4, a5, a6, a7)) : wpX_length post (f1, f2, f3, f4, f5, a1, a2, a3, a4, a5, a6, a7) (nI k) := by
  unfold wpX_length
  exact cd_badI hk (br_t rfl (cd_spineP hk hc h4 h5 h1 h1' h3 (br_t (by decide) hp)))
theorem cd_liveN {post : Int32 → St2 → Prop} {B : Nat} (hB : B ≤ 160) (h4 : ∀ j, j < 8 → a4 j ≠ 2) (hp : post 0 (nI (160 - B), nI (160 - B), 0, f4, f5, a1, a2, a3, a4, a5, a6, a7)) : wpX_live post (nI B, f2, f3, f4, f5, a1, a2, a3, a4, a5, a6, a7) := by
  unfold wpX_live
  exact cd_collectN hB h4 hp
theorem cd_liveP {post : Int32 → St2 → Prop} {B T k : Nat} (hT : B + T = 160) (h0 : B = 0 ∨ T = 0) (hk : k < 8) (h4 : a4 k = 2) (h4' : ∀ j, j < 8 → j ≠ k → a4 j ≠ 2) (h5 : a5 k = nI B) (h1 : a1 B = 1) (h1' : a1 (B + 1) = 1) (h3 : a3 B = 0)
    (H : ∀ A1 A2 A3 : Nat → Int32, A1 T = 1 → A1 (T + 1) = 1 → A2 T = a2 B → A2 (T + 1) = a2 (B + 1) → A3 T = 0 → post 1 (nI T, nI (T + 2), 1, 1, a2 (B + 1), A1, A2, A3, a4, upd a5 k (nI T), a6, a7)) :
    wpX_live post (nI B, f2, f3, f4, f5, a1, a2, a3, a4, a5, a6, a7) := by
  unfold wpX_live
  exact cd_collectP hT h0 hk h4 h4' h5 h1 h1' h3 H
theorem cd_reverseO {post : Int32 → St2 → Prop} {p0 : Int32} (h : cd_out p0) (hp : post (-1) (f1, f2, f3, f4, f5, a1, a2, a3, a4, a5, a6, a7)) : wpX_reverse post (f1, f2, f3, f4, f5, a1, a2, a3, a4, a5, a6, a7) p0 := by
  unfold wpX_reverse
  exact cd_badO h (br_f (by decide) hp)
theorem cd_reverseN {post : Int32 → St2 → Prop} {k : Nat} {x : Int32} (hk : k < 8) (h : a4 k ≠ 2) (h0 : a4 k = 0 → x = 0) (h1 : ¬ a4 k = 0 → x = -3) (hp : post x (f1, f2, f3, a4 k, a5 k, a1, a2, a3, a4, a5, a6, a7)) : wpX_reverse post (f1, f2, f3, f4, f5, a1, a2, a3, a4, a5, a6, a7) (nI k) := by
  unfold wpX_reverse
  refine cd_badI hk (br_t rfl ?_)
  unfold wpX_proper
  refine cd_spineN hk h (br_f (by decide) (br_c (fun e => ?_) (fun e => ?_)))
  · rw [h0 e] at hp
    exact br_f (by decide) hp
  · rw [h1 e] at hp
    exact br_f (by decide) hp
theorem cd_reverseP {post : Int32 → St2 → Prop} {k c : Nat} (hk : k < 8) (hc : c + 1 < 320) (h4 : a4 k = 2) (h5 : a5 k = nI c) (h1 : a1 c = 1) (h1' : a1 (c + 1) = 1) (h3 : a3 c = 0) (hp : post (-3) (f1, f2, f3, 1, a2 (c + 1), a1, a2, a3, a4, a5, a6, a7)) : wpX_reverse post (f1, f2, f3, f4, f5, a1, a2, a3, a4, a5, a6, a7) (nI k) := by
  unfold wpX_reverse
  refine cd_badI hk (br_t rfl ?_)
  unfold wpX_proper
  exact cd_spineP hk hc h4 h5 h1 h1' h3 (br_f (by decide) (br_f (by decide) (br_f (by decide) hp)))
theorem cd_carO {post : Int32 → St2 → Prop} {p0 p1 : Int32} (h : cd_out p0 ∨ cd_out p1) (hp : post (-1) (f1, f2, f3, f4, f5, a1, a2, a3, a4, a5, a6, a7)) : wpX_car post (f1, f2, f3, f4, f5, a1, a2, a3, a4, a5, a6, a7) p0 p1 := by
  unfold wpX_car
  rcases cd_dich p0 with h0 | ⟨i, hi, rfl⟩
  · exact cd_badO h0 (br_f (by decide) hp)
  · have h1 : cd_out p1 := by
      rcases h with h | h
      · exact absurd rfl (cd_oNe h hi)
      · exact h
    exact cd_badI hi (br_t rfl (cd_badO h1 (br_f (by decide) hp)))
theorem cd_carN {post : Int32 → St2 → Prop} {i k : Nat} (hi : i < 8) (hk : k < 8) (h : a4 k ≠ 2) (hp : post (-3) (f1, f2, f3, f4, f5, a1, a2, a3, a4, a5, a6, a7)) : wpX_car post (f1, f2, f3, f4, f5, a1, a2, a3, a4, a5, a6, a7) (nI i) (nI k) := by
  unfold wpX_car
  exact cd_badI hi (br_t rfl (cd_badI hk (br_t rfl ⟨pk_in k 8 hk, br_f (by rw [nI_clamp (by omega)]; exact h) hp⟩)))
theorem cd_carP {post : Int32 → St2 → Prop} {i k c : Nat} (hi : i < 8) (hk : k < 8) (hc : c < 320) (h4 : a4 k = 2) (h5 : a5 k = nI c) (h1 : a1 c = 1) (hp : post 0 (f1, f2, f3, 1, a2 c, a1, a2, a3, upd a4 i 1, upd a5 i (a2 c), a6, a7)) : wpX_car post (f1, f2, f3, f4, f5, a1, a2, a3, a4, a5, a6, a7) (nI i) (nI k) := by
  unfold wpX_car
  refine cd_badI hi (br_t rfl (cd_badI hk (br_t rfl ⟨pk_in k 8 hk, br_t (by rw [nI_clamp (by omega)]; exact h4) ⟨pk_in k 8 hk, ?_⟩⟩)))
  rw [nI_clamp (show k < 2 ^ 31 by omega), h5]
  unfold wpX_gotCar
  exact cd_settle hc (by rw [h1]; decide) ⟨pk_in c 320 hc, nm_r (e' := 1) (by rw [nI_clamp (by omega)]; exact h1) ⟨pk_in c 320 hc, nm_r (e' := a2 c) (by rw [nI_clamp (by omega)]) (cd_setReg hi hp)⟩⟩
theorem cd_valueO {post : Int32 → Prop} {p0 : Int32} (h : cd_out p0) (hp : post 0) : wpX_value post (f1, f2, f3, f4, f5, a1, a2, a3, a4, a5, a6, a7) p0 := by
  unfold wpX_value
  exact cd_badO h (br_f (by decide) hp)
theorem cd_valueI {post : Int32 → Prop} {i : Nat} {x : Int32} (hi : i < 8) (h4 : a4 i = 1) (hx : a5 i = x) (hp : post x) : wpX_value post (f1, f2, f3, f4, f5, a1, a2, a3, a4, a5, a6, a7) (nI i) := by
  unfold wpX_value
  refine cd_badI hi (br_t rfl ⟨pk_in i 8 hi, ?_⟩)
  rw [nI_clamp (show i < 2 ^ 31 by omega), h4, hx]
  exact br_t rfl ⟨pk_in i 8 hi, hp⟩
end
end
section
/-! the law's tail: its checks, from the last one back -/
section
variable {post : Int32 → St0 → Prop} {mc ms kc ks : Nat} {x0 x1 x2 x3 x4 x6 x7 x8 x9 x10 x11 x12 x13 x14 x15 x16 x17 x18 x19 z0 z1 : Int32}
theorem cd_357 (hp : post 1 ()) (h13 : x13 = if x17 = 0 then 0 else if x0 = x2 then 0 else 1) (h : z1 = z0) : wL_lawOf_357 post mc ms x0 x2 x13 x17 z0 z1 kc ks := by
  unfold wL_lawOf_357
  exact br_t h (br_c (fun g => br_t (by rw [h13, if_pos g]) hp) (fun g => br_c (fun g2 => br_t (by rw [h13, if_neg g, if_pos g2]) hp) (fun g2 => br_t (by rw [h13, if_neg g, if_neg g2]) hp)))
theorem cd_341 (hp : post 1 ()) (h13 : x13 = if x17 = 0 then 0 else if x0 = x2 then 0 else 1) (h12 : x12 = if x14 = 0 then 0 else x19) (h : z1 = z0) : wL_lawOf_341 post mc ms x0 x2 x12 x13 x14 x17 x19 z0 z1 kc ks := by
  unfold wL_lawOf_341
  exact br_t h (br_c (fun g => cd_357 hp h13 (by rw [h12, if_pos g])) (fun g => cd_357 hp h13 (by rw [h12, if_neg g])))
theorem cd_311 (hp : post 1 ()) (h13 : x13 = if x17 = 0 then 0 else if x0 = x2 then 0 else 1) (h12 : x12 = if x14 = 0 then 0 else x19) (h11 : x11 = if x14 = 0 then -1 else if x16 = 0 then -1 else if x17 = 0 then -3 else 0) (h : z1 = z0) : wL_lawOf_311 post mc ms x0 x2 x11 x12 x13 x14 x16 x17 x19 z0 z1 kc ks := by
  unfold wL_lawOf_311 wL_lawOf_326
  exact br_t h (br_c (fun g => cd_341 hp h13 h12 (by rw [h11, if_pos g])) (fun g => br_c (fun g2 => cd_341 hp h13 h12 (by rw [h11, if_neg g, if_pos g2])) (fun g2 => br_c (fun g3 => cd_341 hp h13 h12 (by rw [h11, if_neg g, if_neg g2, if_pos g3])) (fun g3 => cd_341 hp h13 h12 (by rw [h11, if_neg g, if_neg g2, if_neg g3])))))
theorem cd_280 (hp : post 1 ()) (h13 : x13 = if x17 = 0 then 0 else if x0 = x2 then 0 else 1) (h12 : x12 = if x14 = 0 then 0 else x19) (h11 : x11 = if x14 = 0 then -1 else if x16 = 0 then -1 else if x17 = 0 then -3 else 0) (h10 : x10 = if x16 = 0 then -1 else if x17 = 0 then (if x18 = 1 then -3 else 0) else -3) (h : z1 = z0) : wL_lawOf_280 post mc ms x0 x2 x10 x11 x12 x13 x14 x16 x17 x18 x19 z0 z1 kc ks := by
  unfold wL_lawOf_280 wL_lawOf_305
  exact br_t h (br_c (fun g => cd_311 hp h13 h12 h11 (by rw [h10, if_pos g])) (fun g => br_c (fun g2 => br_c (fun g3 => cd_311 hp h13 h12 h11 (by rw [h10, if_neg g, if_pos g2, if_pos g3])) (fun g3 => cd_311 hp h13 h12 h11 (by rw [h10, if_neg g, if_pos g2, if_neg g3]))) (fun g2 => cd_311 hp h13 h12 h11 (by rw [h10, if_neg g, if_neg g2]))))
theorem cd_265 (hp : post 1 ()) (h13 : x13 = if x17 = 0 then 0 else if x0 = x2 then 0 else 1) (h12 : x12 = if x14 = 0 then 0 else x19) (h11 : x11 = if x14 = 0 then -1 else if x16 = 0 then -1 else if x17 = 0 then -3 else 0) (h10 : x10 = if x16 = 0 then -1 else if x17 = 0 then (if x18 = 1 then -3 else 0) else -3) (h9 : x9 = if x17 = 0 then 0 else 1) (h : z1 = z0) : wL_lawOf_265 post mc ms x0 x2 x9 x10 x11 x12 x13 x14 x16 x17 x18 x19 z0 z1 kc ks := by
  unfold wL_lawOf_265
  exact br_t h (br_c (fun g => cd_280 hp h13 h12 h11 h10 (by rw [h9, if_pos g])) (fun g => cd_280 hp h13 h12 h11 h10 (by rw [h9, if_neg g])))
theorem cd_241 (hp : post 1 ()) (h13 : x13 = if x17 = 0 then 0 else if x0 = x2 then 0 else 1) (h12 : x12 = if x14 = 0 then 0 else x19) (h11 : x11 = if x14 = 0 then -1 else if x16 = 0 then -1 else if x17 = 0 then -3 else 0) (h10 : x10 = if x16 = 0 then -1 else if x17 = 0 then (if x18 = 1 then -3 else 0) else -3) (h9 : x9 = if x17 = 0 then 0 else 1) (h8 : x8 = if x16 = 0 then -1 else if x17 = 0 then 0 else 1) (h : z1 = z0) : wL_lawOf_241 post mc ms x0 x2 x8 x9 x10 x11 x12 x13 x14 x16 x17 x18 x19 z0 z1 kc ks := by
  unfold wL_lawOf_241
  exact br_t h (br_c (fun g => cd_265 hp h13 h12 h11 h10 h9 (by rw [h8, if_pos g])) (fun g => br_c (fun g2 => cd_265 hp h13 h12 h11 h10 h9 (by rw [h8, if_neg g, if_pos g2])) (fun g2 => cd_265 hp h13 h12 h11 h10 h9 (by rw [h8, if_neg g, if_neg g2]))))
theorem cd_216 (hp : post 1 ()) (h13 : x13 = if x17 = 0 then 0 else if x0 = x2 then 0 else 1) (h12 : x12 = if x14 = 0 then 0 else x19) (h11 : x11 = if x14 = 0 then -1 else if x16 = 0 then -1 else if x17 = 0 then -3 else 0) (h10 : x10 = if x16 = 0 then -1 else if x17 = 0 then (if x18 = 1 then -3 else 0) else -3) (h9 : x9 = if x17 = 0 then 0 else 1) (h8 : x8 = if x16 = 0 then -1 else if x17 = 0 then 0 else 1) (h7 : x7 = if x16 = 0 then -1 else if x17 = 0 then x18 else 2) (h : z1 = z0) : wL_lawOf_216 post mc ms x0 x2 x7 x8 x9 x10 x11 x12 x13 x14 x16 x17 x18 x19 z0 z1 kc ks := by
  unfold wL_lawOf_216
  exact br_t h (br_c (fun g => cd_241 hp h13 h12 h11 h10 h9 h8 (by rw [h7, if_pos g])) (fun g => br_c (fun g2 => cd_241 hp h13 h12 h11 h10 h9 h8 (by rw [h7, if_neg g, if_pos g2])) (fun g2 => cd_241 hp h13 h12 h11 h10 h9 h8 (by rw [h7, if_neg g, if_neg g2]))))
theorem cd_202 (hp : post 1 ()) (h13 : x13 = if x17 = 0 then 0 else if x0 = x2 then 0 else 1) (h12 : x12 = if x14 = 0 then 0 else z0) (h11 : x11 = if x14 = 0 then -1 else if x16 = 0 then -1 else if x17 = 0 then -3 else 0) (h10 : x10 = if x16 = 0 then -1 else if x17 = 0 then (if x18 = 1 then -3 else 0) else -3) (h9 : x9 = if x17 = 0 then 0 else 1) (h8 : x8 = if x16 = 0 then -1 else if x17 = 0 then 0 else 1) (h7 : x7 = if x16 = 0 then -1 else if x17 = 0 then x18 else 2) (h6 : x6 = if x17 = 0 then -1 else 0) : wL_lawOf_202 post mc ms x0 x2 x6 x7 x8 x9 x10 x11 x12 x13 x14 x16 x17 x18 z0 kc ks := by
  unfold wL_lawOf_202
  exact br_c (fun g => cd_216 hp h13 h12 h11 h10 h9 h8 h7 (by rw [h6, if_pos g])) (fun g => cd_216 hp h13 h12 h11 h10 h9 h8 h7 (by rw [h6, if_neg g]))
theorem cd_189 {mi : Int32} (hmi : mi = if x0 = x1 then x4 else x3) (H : wL_lawOf_202 post mc ms x0 x2 x6 x7 x8 x9 x10 x11 x12 x13 x14 x16 x17 z0 mi kc ks) : wL_lawOf_189 post mc ms x0 x1 x2 x3 x4 x6 x7 x8 x9 x10 x11 x12 x13 x14 x16 x17 z0 kc ks := by
  unfold wL_lawOf_189
  refine br_c (fun g => ?_) (fun g => ?_)
  · rw [hmi, if_pos g] at H
    exact H
  · rw [hmi, if_neg g] at H
    exact H
theorem cd_162 {hl : Int32} (hhl : hl = if x16 = 0 then 0 else if x2 = x1 then 1 else if x2 = x0 then 1 else 0) (H : wL_lawOf_189 post mc ms x0 x1 x2 x3 x4 x6 x7 x8 x9 x10 x11 x12 x13 x14 x16 z0 hl kc ks) : wL_lawOf_162 post mc ms x0 x1 x2 x3 x4 x6 x7 x8 x9 x10 x11 x12 x13 x14 x16 z0 kc ks := by
  unfold wL_lawOf_162 wL_lawOf_174 wL_lawOf_184 wL_lawOf_188
  refine br_c (fun g => br_t g ?_) (fun g => br_c (fun g2 => ?_) (fun g2 => br_f g (br_c (fun g3 => ?_) (fun g3 => ?_))))
  · rw [hhl, if_pos g] at H
    exact H
  · rw [hhl, if_neg g, if_pos g2] at H
    exact H
  · rw [hhl, if_neg g, if_neg g2, if_pos g3] at H
    exact H
  · rw [hhl, if_neg g, if_neg g2, if_neg g3] at H
    exact H
theorem cd_140 {dn : Int32} (hdn : dn = if x14 = 0 then 0 else if x15 = 0 then 0 else if z0 = 0 then 0 else 1) (H : wL_lawOf_162 post mc ms x0 x1 x2 x3 x4 x6 x7 x8 x9 x10 x11 x12 x13 x14 z0 dn kc ks) : wL_lawOf_140 post mc ms x0 x1 x2 x3 x4 x6 x7 x8 x9 x10 x11 x12 x13 x14 x15 z0 kc ks := by
  unfold wL_lawOf_140 wL_lawOf_161
  refine br_c (fun g => ?_) (fun g => br_c (fun g2 => ?_) (fun g2 => br_c (fun g3 => ?_) (fun g3 => ?_)))
  · rw [hdn, if_pos g] at H
    exact H
  · rw [hdn, if_neg g, if_pos g2] at H
    exact H
  · rw [hdn, if_neg g, if_neg g2, if_pos g3] at H
    exact H
  · rw [hdn, if_neg g, if_neg g2, if_neg g3] at H
    exact H
/-- 1 for a number of 0..7, else 0 -/
def cd_f (x : Int32) : Int32 := if x < 0 then 0 else if 7 < x then 0 else 1
theorem cd_fO {x : Int32} (h : cd_out x) : cd_f x = 0 := by
  unfold cd_f
  by_cases g : x < 0
  · rw [if_pos g]
  · rw [if_neg g, if_pos (h.resolve_left g)]
theorem cd_fI {i : Nat} (hi : i < 8) : cd_f (nI i) = 1 := by
  unfold cd_f
  have g : ¬ (7 : Int32) < nI i := nI_nlt (a := 7) (b := i) (by omega) (by decide)
  rw [if_neg (nI_pos (by omega)), if_neg g]
theorem cd_fl {P : Int32 → Prop} {x y : Int32} (e : cd_f x = y) (h : P y) : (x < 0 → P 0) ∧ (¬ x < 0 → ((7 < x → P 0) ∧ (¬ 7 < x → P 1))) := by
  subst e
  unfold cd_f at h
  refine br_c (fun g => ?_) (fun g => br_c (fun g2 => ?_) (fun g2 => ?_))
  · rw [if_pos g] at h
    exact h
  · rw [if_neg g, if_pos g2] at h
    exact h
  · rw [if_neg g, if_neg g2] at h
    exact h
theorem cd_tail {a b r n v fa fb fr dn hl mi : Int32} (hp : post 1 ()) (ha : cd_f a = fa) (hb : cd_f b = fb) (hr : cd_f r = fr)
    (hdn : dn = if fa = 0 then 0 else if fb = 0 then 0 else if fr = 0 then 0 else 1)
    (hhl : hl = if fr = 0 then 0 else if r = b then 1 else if r = a then 1 else 0)
    (hmi : mi = if a = b then v else n)
    (h6 : x6 = if dn = 0 then -1 else 0) (h7 : x7 = if fr = 0 then -1 else if dn = 0 then hl else 2) (h8 : x8 = if fr = 0 then -1 else if dn = 0 then 0 else 1) (h9 : x9 = if dn = 0 then 0 else 1)
    (h10 : x10 = if fr = 0 then -1 else if dn = 0 then (if hl = 1 then -3 else 0) else -3) (h11 : x11 = if fa = 0 then -1 else if fr = 0 then -1 else if dn = 0 then -3 else 0) (h12 : x12 = if fa = 0 then 0 else mi) (h13 : x13 = if dn = 0 then 0 else if a = r then 0 else 1) :
    (a < 0 → wL_lawOf_105 post mc ms a b r n v x6 x7 x8 x9 x10 x11 x12 x13 kc ks) ∧ (¬ a < 0 → ((7 < a → wL_lawOf_105 post mc ms a b r n v x6 x7 x8 x9 x10 x11 x12 x13 kc ks) ∧ (¬ 7 < a → wL_lawOf_106 post mc ms a b r n v x6 x7 x8 x9 x10 x11 x12 x13 1 kc ks))) := by
  have K : wL_lawOf_140 post mc ms a b r n v x6 x7 x8 x9 x10 x11 x12 x13 fa fb fr kc ks :=
    cd_140 hdn (cd_162 hhl (cd_189 hmi (cd_202 hp h13 h12 h11 h10 h9 h8 h7 h6)))
  have K2 : wL_lawOf_123 post mc ms a b r n v x6 x7 x8 x9 x10 x11 x12 x13 fa fb kc ks := by
    unfold wL_lawOf_123 wL_lawOf_139
    exact cd_fl (P := fun z => wL_lawOf_140 post mc ms a b r n v x6 x7 x8 x9 x10 x11 x12 x13 fa fb z kc ks) hr K
  have K3 : wL_lawOf_106 post mc ms a b r n v x6 x7 x8 x9 x10 x11 x12 x13 fa kc ks := by
    unfold wL_lawOf_106 wL_lawOf_122
    exact cd_fl (P := fun z => wL_lawOf_123 post mc ms a b r n v x6 x7 x8 x9 x10 x11 x12 x13 fa z kc ks) hb K2
  unfold wL_lawOf_105
  exact cd_fl (P := fun z => wL_lawOf_106 post mc ms a b r n v x6 x7 x8 x9 x10 x11 x12 x13 z kc ks) ha K3
end
end
section
/-! the law -/
theorem cd_cell {post : Int32 → Prop} {L : Nat} {xs : Nat → Int32} {q : Nat} (hL : L ≤ 5) (hq : q < 5) (h : ∀ x, post x) : wpL_cellAt post L xs () (nI q) := by
  unfold wpL_cellAt
  exact pk_le L q (fun _ => h 0) (fun g => ⟨pk_in q L g, h _⟩)
theorem cd_iteC {x y p q : Int32} : (if x = y then p else q) = if y = x then p else q := by
  by_cases g : x = y
  · rw [if_pos g, if_pos g.symm]
  · rw [if_neg g, if_neg (Ne.symm g)]
theorem cd_lawOf {post : Int32 → St0 → Prop} {a b r n v : Int32} (hp : post 1 ()) : wpL_lawOf post 8 1116 () a b r n v := by
  unfold wpL_lawOf
  refine ⟨by decide, by decide, 7, 1104, by decide, by decide, ?_⟩
  unfold wpX_init
  refine ⟨by decide, by decide, by decide, by decide, by decide, by decide, by decide, by decide, by decide, by decide, by decide, by decide, by decide, by decide, ?_⟩
  refine cd_number (fun r1 t1 c1 ht1 hc1 => ?_)
  refine cd_number (fun r2 t c ht hc => ?_)
  have hTk : ∀ k, k < 8 → t k = if nI k = b then 1 else if nI k = a then 1 else 0 := by
    intro k hk
    have e1 : t1 k = if a = nI k then 1 else 0 := ht1 k hk
    rw [ht k hk, e1, cd_iteC (x := b), cd_iteC (x := a)]
  have hT3 : ∀ k, k < 8 → t k = 0 ∨ t k = 1 := by
    intro k hk
    rw [hTk k hk]
    by_cases g : nI k = b
    · rw [if_pos g]
      exact Or.inr rfl
    · by_cases g2 : nI k = a
      · rw [if_neg g, if_pos g2]
        exact Or.inr rfl
      · rw [if_neg g, if_neg g2]
        exact Or.inl rfl
  have T2 : ∀ j, j < 8 → t j ≠ 2 := by
    intro j hj
    rcases hT3 j hj with e | e
    · rw [e]
      decide
    · rw [e]
      decide
  have hTa : ∀ i, i < 8 → a = nI i → t i = 1 := by
    intro i hi e
    rw [hTk i hi]
    by_cases g : nI i = b
    · rw [if_pos g]
    · rw [if_neg g, if_pos e.symm]
  have hTb : ∀ j, j < 8 → b = nI j → t j = 1 := by
    intro j hj e
    rw [hTk j hj, if_pos e.symm]
  have hCa : ∀ i, i < 8 → a = nI i → c i = if a = b then v else n := by
    intro i hi e
    rw [hc i hi, hc1 i hi, if_pos e, ← e, cd_iteC (x := b)]
  by_cases hD : cd_out r ∨ cd_out a ∨ cd_out b
  · refine cd_consO hD ?_
    rcases cd_dich r with ro | ⟨k, hk, rfl⟩
    · refine cd_kindO ro (cd_lengthO ro (cd_liveN (B := 0) (by decide) T2 (cd_reverseO ro (cd_carO (Or.inr ro) ?_))))
      rcases cd_dich a with ao | ⟨i, hi, rfl⟩
      · refine cd_valueO ao (cd_liveN (B := 160) (by decide) T2 ?_)
        exact cd_tail (dn := 0) (hl := 0) hp (cd_fO ao) rfl (cd_fO ro) rfl rfl rfl rfl rfl rfl rfl rfl rfl rfl rfl
      · refine cd_valueI hi (hTa i hi rfl) rfl (cd_liveN (B := 160) (by decide) T2 ?_)
        refine cd_tail (dn := 0) (hl := 0) (mi := c i) hp (cd_fI hi) rfl (cd_fO ro) ?_ rfl (hCa i hi rfl) rfl rfl rfl rfl rfl rfl rfl rfl
        by_cases g : cd_f b = 0
        · rw [if_pos g, if_neg (by decide)]
        · rw [if_neg g, if_neg (by decide), if_pos rfl]
    · have hk2 := T2 k hk
      have h0 : t k = 0 → (if t k = 1 then (-3 : Int32) else 0) = 0 := by
        intro e
        rw [e]
        rfl
      have h1 : ¬ t k = 0 → (if t k = 1 then (-3 : Int32) else 0) = -3 := by
        intro e
        rw [if_pos ((hT3 k hk).resolve_left e)]
      refine cd_kindI hk rfl (cd_lengthN hk hk2 (cd_liveN (B := 0) (by decide) T2 (cd_reverseN hk hk2 h0 h1 ?_)))
      rcases cd_dich a with ao | ⟨i, hi, rfl⟩
      · refine cd_carO (Or.inl ao) (cd_valueO ao (cd_liveN (B := 160) (by decide) T2 ?_))
        exact cd_tail (dn := 0) (hl := t k) hp (cd_fO ao) rfl (cd_fI hk) rfl (hTk k hk) rfl rfl rfl rfl rfl rfl rfl rfl rfl
      · have bo : cd_out b := by
          rcases hD with h | h | h
          · exact absurd rfl (cd_oNe h hk)
          · exact absurd rfl (cd_oNe h hi)
          · exact h
        refine cd_carN hi hk hk2 (cd_valueI hi (hTa i hi rfl) rfl (cd_liveN (B := 160) (by decide) T2 ?_))
        exact cd_tail (dn := 0) (hl := t k) (mi := c i) hp (cd_fI hi) (cd_fO bo) (cd_fI hk) rfl (hTk k hk) (hCa i hi rfl) rfl rfl rfl rfl rfl rfl rfl rfl
  · rcases cd_dich r with ro | ⟨k, hk, rfl⟩
    · exact absurd (Or.inl ro) hD
    rcases cd_dich a with ao | ⟨i, hi, rfl⟩
    · exact absurd (Or.inr (Or.inl ao)) hD
    rcases cd_dich b with bo | ⟨j, hj, rfl⟩
    · exact absurd (Or.inr (Or.inr bo)) hD
    refine cd_consI hi hj hk (by rw [hTb j hj rfl]; decide) (fun A1 A2 A3 e1 e2 e3 e4 e5 => ?_)
    rw [hTa i hi rfl] at e1
    rw [hTb j hj rfl] at e2
    have U : ∀ m, m < 8 → m ≠ k → upd t k 2 m ≠ 2 := by
      intro m hm hne
      rw [pk_un hne]
      exact T2 m hm
    refine cd_kindI hk pk_us (cd_lengthP (c := 0) hk (by decide) pk_us pk_us e1 e2 e5 ?_)
    refine cd_liveP (B := 0) (T := 160) rfl (Or.inl rfl) hk pk_us U pk_us e1 e2 e5 (fun B1 B2 B3 g1 g2 g3 g4 g5 => ?_)
    refine cd_reverseP (c := 160) hk (by decide) pk_us pk_us g1 g2 g5 ?_
    refine cd_carP (c := 160) hi hk (by decide) pk_us pk_us g1 ?_
    refine cd_valueI (x := c i) hi pk_us (by rw [pk_us, g3, e3]) ?_
    by_cases hik : i = k
    · subst hik
      refine cd_liveN (B := 160) (by decide) (fun m hm => ?_) ?_
      · by_cases g : m = i
        · subst g
          rw [pk_us]
          decide
        · rw [pk_un g]
          exact U m hm g
      · refine cd_tail (dn := 1) (mi := c i) hp (cd_fI hi) (cd_fI hj) (cd_fI hk) rfl rfl (hCa i hi rfl) rfl rfl rfl rfl rfl rfl rfl ?_
        rw [if_neg (by decide), if_pos rfl]
    · refine cd_liveP (B := 160) (T := 0) rfl (Or.inr rfl) hk (by rw [pk_un (Ne.symm hik), pk_us]) (fun m hm g => ?_) (by rw [pk_un (Ne.symm hik), pk_us]) g1 g2 g5 (fun C1 C2 C3 _ _ _ _ _ => ?_)
      · by_cases g2 : m = i
        · subst g2
          rw [pk_us]
          decide
        · rw [pk_un g2]
          exact U m hm g
      · refine cd_tail (dn := 1) (mi := c i) hp (cd_fI hi) (cd_fI hj) (cd_fI hk) rfl rfl (hCa i hi rfl) rfl rfl rfl rfl rfl rfl rfl ?_
        rw [if_neg (by decide), if_neg (cd_nIne hi hk hik)]
theorem i_vc (xs : Nat → Int32) (L : Nat) (hL : L ≤ 5) : wpL_law (fun r => r = 1) L xs := by
  unfold wpL_law
  refine cd_cell (q := 0) hL (by decide) (fun a => ?_)
  refine cd_cell (q := 1) hL (by decide) (fun b => ?_)
  refine cd_cell (q := 2) hL (by decide) (fun r => ?_)
  refine cd_cell (q := 3) hL (by decide) (fun n => ?_)
  refine cd_cell (q := 4) hL (by decide) (fun v => ?_)
  exact ⟨8, 1116, by decide, by decide, cd_lawOf rfl⟩
end
