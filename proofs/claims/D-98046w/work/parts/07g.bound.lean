/-! 07g: how great hungers, glows and lights are -/
set_option maxRecDepth 100000
theorem bmod_id {z : Int} (h1 : -2147483648 ≤ z) (h2 : z < 2147483648) : z.bmod (2 ^ 32) = z := by
  show (if z % 4294967296 < (4294967296 + 1) / 2 then z % 4294967296 else z % 4294967296 - 4294967296) = z
  split <;> omega
theorem nI_sub {a c : Nat} (h : c ≤ a) : nI a - nI c = nI (a - c) := by
  have := nI_add (a - c) c
  rw [Nat.sub_add_cancel h] at this
  rw [← this]
  simp
theorem nI_div {a c : Nat} (ha : a < 2 ^ 31) (hc : c < 2 ^ 31) : nI a / nI c = nI (a / c) := by
  apply Int32.toInt_inj.mp
  have hd : a / c < 2 ^ 31 := Nat.lt_of_le_of_lt (Nat.div_le_self a c) ha
  rw [Int32.toInt_div, nI_toInt ha, nI_toInt hc, nI_toInt hd, ← Int.ofNat_tdiv]
  have hb : ∀ n : Nat, n < 2 ^ 31 → ((n : Int)).bmod (2 ^ 32) = (n : Int) := fun n hn => bmod_id (by omega) (by omega)
  exact hb _ hd
theorem sub_toInt {a c : Nat} (ha : a < 2 ^ 30) (hc : c < 2 ^ 30) : (nI a - nI c).toInt = (a : Int) - c := by
  rw [Int32.toInt_sub, nI_toInt (by omega), nI_toInt (by omega)]
  exact bmod_id (by omega) (by omega)
theorem mx0_sub {a c : Nat} (ha : a < 2 ^ 30) (hc : c < 2 ^ 30) : mx 0 (nI a - nI c) = nI (a - c) := by
  unfold mx
  have ht := sub_toInt ha hc
  by_cases h : c ≤ a
  · rw [nI_sub h]
    by_cases h0 : a - c = 0
    · rw [h0]; rfl
    · rw [if_neg (nI_nle (by omega) (by omega))]
  · rw [if_pos (Int32.le_iff_toInt_le.mpr (by rw [ht]; show _ ≤ (0 : Int); omega)), show a - c = 0 by omega]
    rfl
theorem mn2_nI {a c : Nat} (ha : a < 2 ^ 31) (hc : c < 2 ^ 31) : mn2 (nI a) (nI c) = nI (min a c) := by
  unfold mn2
  by_cases h : a ≤ c
  · rw [if_pos ((nI_leI ha hc).mpr h), Nat.min_eq_left h]
  · rw [if_neg (fun hh => h ((nI_leI ha hc).mp hh)), Nat.min_eq_right (by omega)]
theorem mx_nI {a c : Nat} (ha : a < 2 ^ 31) (hc : c < 2 ^ 31) : mx (nI a) (nI c) = nI (max a c) := by
  unfold mx
  by_cases h : c ≤ a
  · rw [if_pos ((nI_leI hc ha).mpr h), Nat.max_eq_left h]
  · rw [if_neg (fun hh => h ((nI_leI hc ha).mp hh)), Nat.max_eq_right (by omega)]
/-- between 0 and 100 or the like: of the form nI -/
theorem isN {x : Int32} {n : Nat} (h0 : 0 ≤ x) (hn : x ≤ nI n) (h : n < 2 ^ 31) : ∃ v, v ≤ n ∧ x = nI v := by
  have h1 : 0 ≤ x.toInt := Int32.le_iff_toInt_le.mp h0
  have h2 := Int32.le_iff_toInt_le.mp hn
  rw [nI_toInt h] at h2
  refine ⟨x.toInt.toNat, by omega, Int32.toInt_inj.mp ?_⟩
  rw [nI_toInt (by omega)]
  omega
theorem eatP_b {N : KI} {e h : Nat} {p : Int32 × Int32} (hp : ∃ v, v ≤ 30 ∧ p.1 = nI v) : ∀ m, ∃ v, v ≤ 30 ∧ (eatP N e h m p).1 = nI v
  | 0 => hp
  | m + 1 => by
    obtain ⟨v, hv, hi⟩ := eatP_b (N := N) (e := e) (h := h) hp m
    by_cases hc : N 337 m = nI e ∧ N 338 m = nI h
    · by_cases h3 : N 339 m = 0
      · exact ⟨0, by omega, eatP_0 hc.1 hc.2 h3⟩
      · refine ⟨v - 5, by omega, ?_⟩
        rw [eatP_1 hc.1 hc.2 h3, hi]
        exact mx0_sub (a := v) (c := 5) (by omega) (by omega)
    · exact ⟨v, hv, by rw [eatP_n hc]; exact hi⟩
theorem hb_b {N : KI} {e : Nat} (hN : NOK N) (he : e < nE N) : ∀ h, ∃ v, v ≤ 30 ∧ (hb N e h).1 = nI v
  | 0 => by
    obtain ⟨-, -, -, -, -, -, h0, h20, -⟩ := hN.2.2.1 e he
    obtain ⟨v, hv, hh⟩ := isN (n := 20) h0 h20 (by omega)
    exact ⟨v, by omega, hh⟩
  | h + 1 => by
    obtain ⟨v, hv, hi⟩ := eatP_b (N := N) (e := e) (h := h) (hb_b hN he h) (nM N)
    show ∃ w, w ≤ 30 ∧ mn2 30 ((eatP N e h (nM N) (hb N e h)).1 + grw N e) = nI w
    rw [hi]
    unfold grw
    by_cases hg : N 309 e = 1
    · rw [if_pos hg]
      exact ⟨min 30 (v + 2), by omega, by rw [show (2 : Int32) = nI 2 from rfl, nI_add]; exact mn2_nI (a := 30) (by omega) (by omega)⟩
    · rw [if_neg hg]
      exact ⟨min 30 (v + 1), by omega, by rw [show (1 : Int32) = nI 1 from rfl, nI_add]; exact mn2_nI (a := 30) (by omega) (by omega)⟩
theorem hun_b {N : KI} {e : Nat} (hN : NOK N) (he : e < nE N) (h : Nat) : ∃ v, v ≤ 30 ∧ hun N e h = nI v := eatP_b (hb_b hN he h) (nM N)
theorem glo_b {N : KI} {e : Nat} (hN : NOK N) (hM : MOKs N) (he : e < nE N) (h : Nat) : ∃ v, v ≤ 40 ∧ glo N e h = nI v := by
  unfold glo
  by_cases hd : isHd N e h
  · rw [if_pos hd]; exact ⟨0, by omega, rfl⟩
  rw [if_neg hd]
  unfold glv
  by_cases hs : N 309 e = 3 ∧ 5 ≤ N 318 h
  · rw [if_pos hs]; exact ⟨0, by omega, rfl⟩
  rw [if_neg hs]
  obtain ⟨v, hv, hi⟩ := hun_b hN he h
  obtain ⟨-, -, -, -, h1, h40, -⟩ := hN.2.2.1 e he
  obtain ⟨g, hg, hgi⟩ := isN (n := 40) (Int32.le_trans (by decide) h1) h40 (by omega)
  have hw : ∃ w, w ≤ 30 ∧ (if N 309 e = 2 then hun N e h / 2 else hun N e h) = nI w := by
    by_cases h2 : N 309 e = 2
    · rw [if_pos h2, hi]; exact ⟨v / 2, by omega, nI_div (c := 2) (by omega) (by omega)⟩
    · rw [if_neg h2]; exact ⟨v, hv, hi⟩
  obtain ⟨w, hw1, hw2⟩ := hw
  rw [hw2, hgi, hM.2.2.1]
  have hc := hM.2.2.2.1
  refine ⟨g - (w + nat N 200 45), by omega, ?_⟩
  rw [← mx0_sub (by omega) (by omega), ← nI_add, Int32.sub_sub]
theorem sumG_b {N : KI} {G : Nat → Int32} {q h : Nat} (hG : ∀ e, e < nE N → ∃ v, v ≤ 40 ∧ G (24 * e + h) = nI v) : ∀ n, n ≤ nE N → ∃ v, v ≤ 40 * n ∧ sumG N G q h n = nI v
  | 0, _ => ⟨0, by omega, rfl⟩
  | n + 1, hn => by
    obtain ⟨v, hv, hi⟩ := sumG_b (q := q) hG n (by omega)
    obtain ⟨g, hg, hgi⟩ := hG n (by omega)
    unfold sumG
    by_cases hq : N 311 n = nI q
    · rw [if_pos hq, hi, hgi, nI_add]; exact ⟨v + g, by omega, rfl⟩
    · rw [if_neg hq]; exact ⟨v, by omega, hi⟩
theorem rw_b {N : KI} {G : Nat → Int32} {q h : Nat} (hN : NOK N) (hq : q < nQ N) (hG : ∀ e, e < nE N → ∃ v, v ≤ 40 ∧ G (24 * e + h) = nI v) : ∃ v, v ≤ 240 ∧ rw_ N G q h = nI v := by
  obtain ⟨v, hv, hi⟩ := sumG_b (q := q) hG (nE N) (Nat.le_refl _)
  have h6 := hN.1.2.2.2.2.2.1
  obtain ⟨-, -, s0, s1, -⟩ := hN.2.1 q hq
  obtain ⟨s, hs, hsi⟩ := isN (n := 100) s0 s1 (by omega)
  have hv2 : v ≤ 240 := by omega
  unfold rw_
  rw [hi, hsi, show (100 : Int32) = nI 100 from rfl, nI_sub hs, nI_mul]
  have h3 : v * (100 - s) ≤ v * 100 := Nat.mul_le_mul_left v (by omega)
  exact ⟨v * (100 - s) / 100, by omega, nI_div (by omega) (by omega)⟩
theorem Lig_b {N : KI} {q h : Nat} (hN : NOK N) (hM : MOKs N) (hq : q < nQ N) (hh : h < 24) : ∃ v, v ≤ 240 ∧ Lig N q h = nI v := by
  have hG : ∀ h', h' < 24 → ∀ e, e < nE N → ∃ v, v ≤ 40 ∧ gRow N (24 * e + h') = nI v := fun h' hh' e he => by rw [gRow_at N e hh']; exact glo_b hN hM he h'
  unfold Lig lig
  by_cases hl : N 305 q = 1
  · rw [if_pos hl]
    by_cases h0 : h = 0
    · rw [if_pos h0]; exact ⟨0, by omega, rfl⟩
    · rw [if_neg h0]; exact rw_b hN hq (hG _ (by omega))
  · rw [if_neg hl]; exact rw_b hN hq (hG _ hh)
theorem hunQ_b {N : KI} {Hg : Nat → Int32} {q h : Nat} (h6 : nE N ≤ 6) (hH : ∀ e, e < nE N → ∃ v, v ≤ 30 ∧ Hg (24 * e + h) = nI v) : ∀ n, n ≤ nE N → hunQ N Hg q h n = -1 ∨ ∃ v, v ≤ 30 * n ∧ hunQ N Hg q h n = nI v
  | 0, _ => Or.inl rfl
  | n + 1, hn => by
    obtain ⟨g, hg, hgi⟩ := hH n (by omega)
    have ih := hunQ_b (q := q) h6 hH n (by omega)
    unfold hunQ
    by_cases hq : N 311 n = nI q
    · rw [if_pos hq]
      rcases ih with ih | ⟨v, hv, ih⟩
      · rw [ih, hgi]; exact Or.inr ⟨g, by omega, by rw [show mx 0 (-1) = nI 0 from by decide, nI_add, Nat.zero_add]⟩
      · rw [ih, hgi, show (0 : Int32) = nI 0 from rfl, mx_nI (by omega) (by omega), nI_add]
        exact Or.inr ⟨max 0 v + g, by omega, rfl⟩
    · rw [if_neg hq]; rcases ih with ih | ⟨v, hv, ih⟩
      · exact Or.inl ih
      · exact Or.inr ⟨v, by omega, ih⟩
