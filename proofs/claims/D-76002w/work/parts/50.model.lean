abbrev Gm : Type := va_G × (Nat → Nat → Nat) × (Nat → Nat) × (Nat → Nat) × (Nat → ClassId)
abbrev Gm.D (G : Gm) : va_G := G.1
abbrev Gm.ad (G : Gm) : Nat → Nat → Nat := G.2.1
abbrev Gm.adK (G : Gm) : Nat → Nat := G.2.2.1
abbrev Gm.adV (G : Gm) : Nat → Nat := G.2.2.2.1
abbrev Gm.ca (G : Gm) : Nat → ClassId := G.2.2.2.2
abbrev clM : List vw_C := [(RX13, TX13, 24)]
abbrev mtys (ca : Nat → ClassId) : List (ClassId × FieldType) := [(ca 0, .int), (ca 1, .object "java/lang/String")]
def mids : List (Nat × Nat) := (List.range 14).map (fun i => (0, i))
abbrev mF (G : Gm) : Fam := (G.D, clM, mtys G.ca, mids, G.ad, G.adK, G.adV)
theorem min_ {G : Gm} {i : Nat} (h : i < 14) : (0, i) ∈ (mF G).ids := List.mem_map.mpr ⟨i, List.mem_range.mpr h, rfl⟩
theorem min_inv {G : Gm} {x : Nat × Nat} (h : x ∈ (mF G).ids) : x.1 = 0 ∧ x.2 < 14 := by
  obtain ⟨i, hi, rfl⟩ := List.mem_map.mp h
  exact ⟨rfl, List.mem_range.mp hi⟩
abbrev mpg (d kp as bf sc fd tp it ws sz nu mv : Row) : Nat → Row := fun j => match j with
  | 0 => sc
  | 1 => d
  | 2 => kp
  | 3 => as
  | 4 => bf
  | 5 => fd
  | 6 => tp
  | 9 => it
  | 10 => ws
  | 11 => sz
  | 12 => nu
  | 13 => mv
  | _ => fun _ => 0
def mf (fd : Row) : Row := fun k => match k with
  | 0 => p_sum fd 7
  | k + 1 => fd k
def mt (tp : Row) : Row := fun k => tp k &&& 255
def mcell (G : Gm) (r : Row) (i : Nat) : va_E := match i with
  | 0 => .inr (0, [.ref (G.ad 0 1), .ref (G.ad 0 2), .ref (G.ad 0 3), .ref (G.ad 0 4), .int (r 0), .ref (G.ad 0 5), .int (r 1), .int (r 2), .ref (G.ad 0 6), .int (r 3), .int (r 4), .int (r 5), .int (r 6), .int (r 7), .int (r 8), .ref (G.ad 0 7), .ref (G.ad 0 8), .ref (G.ad 0 9), .int (r 9), .int (r 10), .ref (G.ad 0 10), .ref (G.ad 0 11), .ref (G.ad 0 12), .ref (G.ad 0 13)])
  | 1 => .inl (G.ca 0, 124, .inl r)
  | 2 => .inl (G.ca 0, 124, .inl r)
  | 3 => .inl (G.ca 0, 124, .inl r)
  | 4 => .inl (G.ca 0, 124, .inl r)
  | 5 => .inl (G.ca 0, 8, .inl (mf r))
  | 6 => .inl (G.ca 0, 120, .inl (mt r))
  | 7 => .inl (G.ca 1, 7, .inr (.inr (.inr (.inr (fun k => some (G.adK (1 + k)))))))
  | 8 => .inl (G.ca 1, 4, .inr (.inr (.inr (.inr (fun k => some (G.adK (8 + k)))))))
  | 9 => .inl (G.ca 0, 600, .inl r)
  | 10 => .inl (G.ca 0, 4, .inl r)
  | 11 => .inl (G.ca 0, 4, .inl r)
  | 12 => .inl (G.ca 0, 160, .inl r)
  | _ => .inl (G.ca 0, 40, .inl r)
def mct (G : Gm) (P : Nat → Row) (_ i : Nat) : va_E := mcell G (P i) i
theorem mu {G : Gm} {P P' : Nat → Row} {j : Nat} {e : va_E} (hP : ∀ i, i ≠ j → P' i = P i) (h1 : ∀ a H, va_at G.D clM (a, e) H → va_at G.D clM (a, mcell G (P' j) j) H) : ups (mF G) (mct G P) (mct G P') 0 j e := by
  refine ⟨fun H h => h1 _ H h, fun x hx hne H h => ?_⟩
  obtain ⟨h0, hi⟩ := min_inv hx
  obtain ⟨a, b⟩ := x
  have h0 : a = 0 := h0
  subst h0
  have hb : b ≠ j := fun q => hne (by rw [q])
  have e : mct G P' 0 b = mct G P 0 b := by
    show mcell G (P' b) b = mcell G (P b) b
    rw [hP b hb]
  show va_at G.D clM (G.ad 0 b, mct G P' 0 b) H
  rw [e]
  exact h
theorem mp0 {d kp as bf sc fd tp it ws sz nu mv sc' : Row} : ∀ i, i ≠ 0 → mpg d kp as bf sc' fd tp it ws sz nu mv i = mpg d kp as bf sc fd tp it ws sz nu mv i := by
  intro i hi
  match i, hi with
  | 1, _ => rfl
  | 2, _ => rfl
  | 3, _ => rfl
  | 4, _ => rfl
  | 5, _ => rfl
  | 6, _ => rfl
  | 7, _ => rfl
  | 8, _ => rfl
  | 9, _ => rfl
  | 10, _ => rfl
  | 11, _ => rfl
  | 12, _ => rfl
  | 13, _ => rfl
  | k + 14, _ => rfl
theorem mp1 {d kp as bf sc fd tp it ws sz nu mv d' : Row} : ∀ i, i ≠ 1 → mpg d' kp as bf sc fd tp it ws sz nu mv i = mpg d kp as bf sc fd tp it ws sz nu mv i := by
  intro i hi
  match i, hi with
  | 0, _ => rfl
  | 2, _ => rfl
  | 3, _ => rfl
  | 4, _ => rfl
  | 5, _ => rfl
  | 6, _ => rfl
  | 7, _ => rfl
  | 8, _ => rfl
  | 9, _ => rfl
  | 10, _ => rfl
  | 11, _ => rfl
  | 12, _ => rfl
  | 13, _ => rfl
  | k + 14, _ => rfl
theorem mp2 {d kp as bf sc fd tp it ws sz nu mv kp' : Row} : ∀ i, i ≠ 2 → mpg d kp' as bf sc fd tp it ws sz nu mv i = mpg d kp as bf sc fd tp it ws sz nu mv i := by
  intro i hi
  match i, hi with
  | 0, _ => rfl
  | 1, _ => rfl
  | 3, _ => rfl
  | 4, _ => rfl
  | 5, _ => rfl
  | 6, _ => rfl
  | 7, _ => rfl
  | 8, _ => rfl
  | 9, _ => rfl
  | 10, _ => rfl
  | 11, _ => rfl
  | 12, _ => rfl
  | 13, _ => rfl
  | k + 14, _ => rfl
theorem mp3 {d kp as bf sc fd tp it ws sz nu mv as' : Row} : ∀ i, i ≠ 3 → mpg d kp as' bf sc fd tp it ws sz nu mv i = mpg d kp as bf sc fd tp it ws sz nu mv i := by
  intro i hi
  match i, hi with
  | 0, _ => rfl
  | 1, _ => rfl
  | 2, _ => rfl
  | 4, _ => rfl
  | 5, _ => rfl
  | 6, _ => rfl
  | 7, _ => rfl
  | 8, _ => rfl
  | 9, _ => rfl
  | 10, _ => rfl
  | 11, _ => rfl
  | 12, _ => rfl
  | 13, _ => rfl
  | k + 14, _ => rfl
theorem mp4 {d kp as bf sc fd tp it ws sz nu mv bf' : Row} : ∀ i, i ≠ 4 → mpg d kp as bf' sc fd tp it ws sz nu mv i = mpg d kp as bf sc fd tp it ws sz nu mv i := by
  intro i hi
  match i, hi with
  | 0, _ => rfl
  | 1, _ => rfl
  | 2, _ => rfl
  | 3, _ => rfl
  | 5, _ => rfl
  | 6, _ => rfl
  | 7, _ => rfl
  | 8, _ => rfl
  | 9, _ => rfl
  | 10, _ => rfl
  | 11, _ => rfl
  | 12, _ => rfl
  | 13, _ => rfl
  | k + 14, _ => rfl
theorem mp5 {d kp as bf sc fd tp it ws sz nu mv fd' : Row} : ∀ i, i ≠ 5 → mpg d kp as bf sc fd' tp it ws sz nu mv i = mpg d kp as bf sc fd tp it ws sz nu mv i := by
  intro i hi
  match i, hi with
  | 0, _ => rfl
  | 1, _ => rfl
  | 2, _ => rfl
  | 3, _ => rfl
  | 4, _ => rfl
  | 6, _ => rfl
  | 7, _ => rfl
  | 8, _ => rfl
  | 9, _ => rfl
  | 10, _ => rfl
  | 11, _ => rfl
  | 12, _ => rfl
  | 13, _ => rfl
  | k + 14, _ => rfl
theorem mp6 {d kp as bf sc fd tp it ws sz nu mv tp' : Row} : ∀ i, i ≠ 6 → mpg d kp as bf sc fd tp' it ws sz nu mv i = mpg d kp as bf sc fd tp it ws sz nu mv i := by
  intro i hi
  match i, hi with
  | 0, _ => rfl
  | 1, _ => rfl
  | 2, _ => rfl
  | 3, _ => rfl
  | 4, _ => rfl
  | 5, _ => rfl
  | 7, _ => rfl
  | 8, _ => rfl
  | 9, _ => rfl
  | 10, _ => rfl
  | 11, _ => rfl
  | 12, _ => rfl
  | 13, _ => rfl
  | k + 14, _ => rfl
theorem mp9 {d kp as bf sc fd tp it ws sz nu mv it' : Row} : ∀ i, i ≠ 9 → mpg d kp as bf sc fd tp it' ws sz nu mv i = mpg d kp as bf sc fd tp it ws sz nu mv i := by
  intro i hi
  match i, hi with
  | 0, _ => rfl
  | 1, _ => rfl
  | 2, _ => rfl
  | 3, _ => rfl
  | 4, _ => rfl
  | 5, _ => rfl
  | 6, _ => rfl
  | 7, _ => rfl
  | 8, _ => rfl
  | 10, _ => rfl
  | 11, _ => rfl
  | 12, _ => rfl
  | 13, _ => rfl
  | k + 14, _ => rfl
theorem mp10 {d kp as bf sc fd tp it ws sz nu mv ws' : Row} : ∀ i, i ≠ 10 → mpg d kp as bf sc fd tp it ws' sz nu mv i = mpg d kp as bf sc fd tp it ws sz nu mv i := by
  intro i hi
  match i, hi with
  | 0, _ => rfl
  | 1, _ => rfl
  | 2, _ => rfl
  | 3, _ => rfl
  | 4, _ => rfl
  | 5, _ => rfl
  | 6, _ => rfl
  | 7, _ => rfl
  | 8, _ => rfl
  | 9, _ => rfl
  | 11, _ => rfl
  | 12, _ => rfl
  | 13, _ => rfl
  | k + 14, _ => rfl
theorem mp11 {d kp as bf sc fd tp it ws sz nu mv sz' : Row} : ∀ i, i ≠ 11 → mpg d kp as bf sc fd tp it ws sz' nu mv i = mpg d kp as bf sc fd tp it ws sz nu mv i := by
  intro i hi
  match i, hi with
  | 0, _ => rfl
  | 1, _ => rfl
  | 2, _ => rfl
  | 3, _ => rfl
  | 4, _ => rfl
  | 5, _ => rfl
  | 6, _ => rfl
  | 7, _ => rfl
  | 8, _ => rfl
  | 9, _ => rfl
  | 10, _ => rfl
  | 12, _ => rfl
  | 13, _ => rfl
  | k + 14, _ => rfl
theorem mp12 {d kp as bf sc fd tp it ws sz nu mv nu' : Row} : ∀ i, i ≠ 12 → mpg d kp as bf sc fd tp it ws sz nu' mv i = mpg d kp as bf sc fd tp it ws sz nu mv i := by
  intro i hi
  match i, hi with
  | 0, _ => rfl
  | 1, _ => rfl
  | 2, _ => rfl
  | 3, _ => rfl
  | 4, _ => rfl
  | 5, _ => rfl
  | 6, _ => rfl
  | 7, _ => rfl
  | 8, _ => rfl
  | 9, _ => rfl
  | 10, _ => rfl
  | 11, _ => rfl
  | 13, _ => rfl
  | k + 14, _ => rfl
theorem mp13 {d kp as bf sc fd tp it ws sz nu mv mv' : Row} : ∀ i, i ≠ 13 → mpg d kp as bf sc fd tp it ws sz nu mv' i = mpg d kp as bf sc fd tp it ws sz nu mv i := by
  intro i hi
  match i, hi with
  | 0, _ => rfl
  | 1, _ => rfl
  | 2, _ => rfl
  | 3, _ => rfl
  | 4, _ => rfl
  | 5, _ => rfl
  | 6, _ => rfl
  | 7, _ => rfl
  | 8, _ => rfl
  | 9, _ => rfl
  | 10, _ => rfl
  | 11, _ => rfl
  | 12, _ => rfl
  | k + 14, _ => rfl
theorem p_sum_upd (f : Row) {k : Nat} {x : Int32} : ∀ n, k < n → p_sum (upd f k (f k + x)) n = p_sum f n + x
  | 0, h => absurd h (Nat.not_lt_zero _)
  | n + 1, h => by
    show p_sum (upd f k (f k + x)) n + upd f k (f k + x) n = p_sum f n + f n + x
    by_cases e : k = n
    · subst e
      have q : ∀ j, j ≤ k → p_sum (upd f k (f k + x)) j = p_sum f j := by
        intro j
        induction j with
        | zero => intro _; rfl
        | succ j ih =>
          intro hj
          show p_sum (upd f k (f k + x)) j + upd f k (f k + x) j = p_sum f j + f j
          rw [ih (by omega), upd_n (by omega)]
      rw [q k (Nat.le_refl _), upd_s, ← Int32.add_assoc]
    · rw [p_sum_upd f n (by omega), upd_n (by omega)]
      rw [Int32.add_assoc, Int32.add_assoc, Int32.add_comm x]
theorem mf_find (fd : Row) {k : Nat} (hk : k < 7) : upd (upd (mf fd) (k + 1) (mf fd (k + 1) + 1)) 0 (mf fd 0 + 1) = mf (upd fd k (fd k + 1)) := by
  funext j
  cases j with
  | zero => rw [upd_s]; exact (p_sum_upd fd 7 hk).symm
  | succ j =>
    rw [upd_n (by omega)]
    show upd (mf fd) (k + 1) (fd k + 1) (j + 1) = upd fd k (fd k + 1) j
    by_cases e : j = k
    · subst e; rw [upd_s, upd_s]
    · rw [upd_n (by omega), upd_n e]; rfl
theorem ixp {x : Int32} {n : Nat} (c : Nat) (h : vp_in x n) (hc : c + n < 2147483648) : ix (nI c + x) = c + ix x := by
  obtain ⟨a, ha, rfl⟩ := vp_in_of h (by omega)
  rw [nI_add]
  show (nI (c + a)).toNatClampNeg = c + (nI a).toNatClampNeg
  rw [nI_clamp (by omega), nI_clamp (by omega)]
theorem vinp {x : Int32} {n k : Nat} (c : Nat) (h : vp_in x n) (hk : c + n ≤ k) (hb : k < 2147483648) : vp_in (nI c + x) k := by
  obtain ⟨a, ha, rfl⟩ := vp_in_of h (by omega)
  rw [nI_add]
  exact vp_in_nI (by omega) (by omega)
theorem ixpl {x : Int32} (k : Nat) (h : vp_in x 8) (hk : k < 4) : ix (92 + 4 * x + nI k) = 92 + k + 4 * ix x := by
  obtain ⟨a, ha, rfl⟩ := vp_in_of h (by decide)
  have key : ∀ a, a < 8 → ∀ k, k < 4 → ix (92 + 4 * nI a + nI k) = 92 + k + 4 * ix (nI a) := by decide +kernel
  exact key a ha k hk
theorem vinpl {x : Int32} (k : Nat) (h : vp_in x 8) (hk : k < 4) : vp_in (92 + 4 * x + nI k) 124 := by
  obtain ⟨a, ha, rfl⟩ := vp_in_of h (by decide)
  have key : ∀ a, a < 8 → ∀ k, k < 4 → (decide (0 ≤ (92 + 4 * nI a + nI k).toInt) && decide ((92 + 4 * nI a + nI k).toInt < 124)) = true := by decide +kernel
  exact vin_b (key a ha k hk)
theorem ixs {s x : Int32} {n : Nat} (hs : vp_in s 4) (h : vp_in x n) (hn : n ≤ 40) : ix (40 * s + x) = 40 * ix s + ix x := by
  obtain ⟨a, ha, rfl⟩ := vp_in_of hs (by decide)
  obtain ⟨b, hb, rfl⟩ := vp_in_of h (by omega)
  have e : (40 : Int32) * nI a = nI (40 * a) := by
    have key : ∀ a, a < 4 → (40 : Int32) * nI a = nI (40 * a) := by decide +kernel
    exact key a ha
  rw [e, nI_add]
  show (nI (40 * a + b)).toNatClampNeg = 40 * (nI a).toNatClampNeg + (nI b).toNatClampNeg
  rw [nI_clamp (by omega), nI_clamp (by omega), nI_clamp (by omega)]
theorem vins {s x : Int32} {n : Nat} (hs : vp_in s 4) (h : vp_in x n) (hn : n ≤ 40) : vp_in (40 * s + x) 160 := by
  obtain ⟨a, ha, rfl⟩ := vp_in_of hs (by decide)
  obtain ⟨b, hb, rfl⟩ := vp_in_of h (by omega)
  have e : (40 : Int32) * nI a = nI (40 * a) := by
    have key : ∀ a, a < 4 → (40 : Int32) * nI a = nI (40 * a) := by decide +kernel
    exact key a ha
  rw [e, nI_add]
  exact vp_in_nI (by omega) (by decide)
def p_cp (a b : Row) (n : Nat) : Row := fun k => if k < n then a k else b k
theorem p_cp_s (a b : Row) (n : Nat) : upd (p_cp a b n) n (a n) = p_cp a b (n + 1) := by
  funext j
  by_cases h : j = n
  · subst h; rw [upd_s]; exact (if_pos (by omega)).symm
  · rw [upd_n h]
    unfold p_cp
    by_cases q : j < n
    · rw [if_pos q, if_pos (by omega)]
    · rw [if_neg q, if_neg (by omega)]
theorem fC_by {F : Fam} {ct ct' : Ct} {H0 H : Heap} {locs : List Loc} (h : fC F ct H0 H locs) (hx : ∀ x ∈ F.ids, ∀ H, va_at F.D F.cl (F.ad x.1 x.2, ct x.1 x.2) H → va_at F.D F.cl (F.ad x.1 x.2, ct' x.1 x.2) H) : fC F ct' H0 H locs := by
  refine ⟨fun k x hk => ?_, h.2⟩
  obtain ⟨a, ha, rfl⟩ := fl_inv hk
  exact hx a (List.mem_of_getElem? ha) H (h.1 k _ (by simp [fl, ha]))
