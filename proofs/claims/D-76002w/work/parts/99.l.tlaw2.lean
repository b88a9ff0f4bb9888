theorem mouse_eq {to to4 to5 : Row} {x y b c d : Int32} (hy : (if b < 0 then to 4 else b) = y) (h4 : (to4 = upd (upd (upd to 3 x) 7 0) 4 y ∧ c = -1) ∨ (to4 = upd (upd (upd (upd to 3 x) 7 0) 4 y) 5 c ∧ ¬ c < 0)) (h5 : (to5 = to4 ∧ d = -1) ∨ (to5 = upd to4 6 d ∧ ¬ d < 0)) : to5 = upd (upd (p_tel (p_tel (p_tel to 4 b) 5 c) 6 d) 7 0) 3 x := by
  have hm : (-1 : Int32) < 0 := by decide
  subst hy
  rcases h4 with ⟨rfl, rfl⟩ | ⟨rfl, hc⟩ <;> rcases h5 with ⟨rfl, rfl⟩ | ⟨rfl, hd⟩ <;> funext j <;> simp only [p_tel, upd] <;> grind
theorem mouse_RR {tp to : Row} {L a : Nat} {t v : Int32} {S1 S2 : MSt} (hL : L ≤ 120) (ha : a ≤ L) (hb : RR tp (c_beh tp L 0 35 a t v).1 (c_beh tp L 0 35 a t v).2.1 S2 ∧ ((c_beh tp L 0 35 a t v).2.1 = true → S1.va = (c_beh tp L 0 35 a t v).2.2)) : RR tp (c_mouse tp L a t v to).1 (c_mouse tp L a t v to).2.1 (n_aft 15 0 (-1) tp L (n_aft 14 1 (-1) tp L (n_head tp L S2)).1).1 ∧ ((c_mouse tp L a t v to).2.1 = true → (c_mouse tp L a t v to).2.2 = upd (upd (p_tel (p_tel (p_tel to 4 (n_wof tp 8 4 S2)) 5 (n_aft 14 1 (-1) tp L (n_head tp L S2)).2) 6 (n_aft 15 0 (-1) tp L (n_aft 14 1 (-1) tp L (n_head tp L S2)).1).2) 7 0) 3 S1.va) := by
  unfold c_mouse
  rcases e1 : c_beh tp L 0 35 a t v with ⟨⟨a2, b2, t2, v2⟩, ok2, x⟩
  rw [e1] at hb
  have l2 := beh_L ha e1
  cases ok2
  · rw [cb_f rfl]
    exact ⟨stk_aft (by decide) (by decide) (stk_aft (by decide) (by decide) (stk_head hb.1)), fun z => absurd (show false = true from z) (by decide)⟩
  · rw [cb_t rfl]
    have h2 : TR tp a2 b2 t2 v2 S2 := hb.1
    have ex : S1.va = x := hb.2 rfl
    have hh := head_RR (was := to 4) l2.1 h2
    rcases e2 : c_head tp L (to 4) a2 b2 t2 v2 with ⟨⟨a3, b3, t3, v3⟩, ok3, y⟩
    rw [e2] at hh
    have l3 := head_L l2.1 l2.2 e2
    generalize n_head tp L S2 = S3 at hh ⊢
    cases ok3
    · rw [cb_f rfl]
      exact ⟨stk_aft (by decide) (by decide) (stk_aft (by decide) (by decide) hh.1), fun z => absurd (show false = true from z) (by decide)⟩
    · rw [cb_t rfl]
      have h3 : TR tp a3 b3 t3 v3 S3 := hh.1
      have ho := opt_RR (to := upd (upd (upd to 3 x) 7 0) 4 y) (k := 5) (j := 16) (wd := 16) (lo := 1) (hi := 9) (oth := -1) (by decide) rfl hL l3.1 rfl (by decide) h3
      have g4 := opt_G (tp := tp) (to := upd (upd (upd to 3 x) 7 0) 4 y) (k := 5) (wd := 16) (lo := 1) (hi := 9) (t := t3) (v := v3) l3.1 l3.2
      rw [show wx 16 = 14 from rfl] at ho
      generalize n_aft 14 1 (-1) tp L S3 = r4 at ho ⊢
      rcases e3 : c_opt tp L 16 1 9 5 (upd (upd (upd to 3 x) 7 0) 4 y) a3 b3 t3 v3 with ⟨⟨a4, b4, t4, v4⟩, ok4, to4⟩
      rw [e3] at ho g4
      cases ok4
      · rw [cb_f rfl]
        exact ⟨stk_aft (by decide) (by decide) ho.1, fun z => absurd (show false = true from z) (by decide)⟩
      · rw [cb_t rfl]
        have h4 : TR tp a4 b4 t4 v4 r4.1 := ho.1
        have l4 : a4 ≤ L := g4.2.1
        have hp := opt_RR (to := to4) (k := 6) (j := 17) (wd := 17) (lo := 0) (hi := 9) (oth := -1) (by decide) rfl hL l4 rfl (by decide) h4
        rw [show wx 17 = 15 from rfl] at hp
        generalize n_aft 15 0 (-1) tp L r4.1 = r5 at hp ⊢
        refine ⟨hp.1, fun z => ?_⟩
        rw [ex]
        exact mouse_eq (to := to) (x := x) hh.2 (ho.2 rfl) (hp.2 z)
theorem nmouse_T {tp w : Row} {L : Nat} {S : MSt} {sn : Int32} : T5r (n_mouse tp L S sn) w = upd (upd (p_tel (p_tel (p_tel w 4 (n_wof tp 8 4 (n_num 0 35 tp L (n_must True tp L S)))) 5 (n_aft 14 1 (-1) tp L (n_head tp L (n_num 0 35 tp L (n_must True tp L S)))).2) 6 (n_aft 15 0 (-1) tp L (n_aft 14 1 (-1) tp L (n_head tp L (n_num 0 35 tp L (n_must True tp L S)))).1).2) 7 0) 3 (n_must True tp L S).va := by
  simp only [n_mouse, T5, if_pos]
theorem nmouse_q {tp : Row} {L : Nat} {S : MSt} {sn : Int32} : (n_mouse tp L S sn).2.2.1 = 10 := by simp only [n_mouse]
theorem nmouse_s {tp : Row} {L : Nat} {S : MSt} {sn : Int32} : (n_mouse tp L S sn).2.1 = sn := by simp only [n_mouse]
theorem mouse_1 {w : Row} {a b c x : Int32} : upd (upd (p_tel (p_tel (p_tel w 4 a) 5 b) 6 c) 7 0) 3 x 1 = w 1 := by rw [upd_n (by decide), upd_n (by decide), tel_n (by decide), tel_n (by decide), tel_n (by decide)]
theorem mouse_IR {tp to : Row} {L a b : Nat} {t v sn : Int32} {S : MSt} (hL : L ≤ 120) (ha : a ≤ L) (hs : sn = to 1) (h : TR tp a b t v S) : IR tp (c_mouse tp L a t v to) (n_mouse tp L S sn) to := by
  have g := mouse_RR (to := to) hL ha (beh_RR (P := True) (lo := 0) (hi := 35) trivial hL ha (by decide) h)
  unfold IR
  rw [nmouse_1, nmouse_T, nmouse_q, nmouse_s]
  refine ⟨g.1, fun z => ⟨g.2 z, ?_, fun q => absurd q (by decide), fun q => absurd rfl q⟩⟩
  rw [g.2 z, mouse_1]
  exact hs
theorem num_t1 {tp : Row} {L a b : Nat} {lo hi t v : Int32} {s : RS} (h : c_num tp L lo hi a b t v = (s, true)) : t = 1 := by
  unfold c_num at h
  split at h
  · rename_i q
    exact q.1
  · exact absurd (show false = true from congrArg (fun z => z.2) h) (by decide)
theorem lie_IR {tp to : Row} {L a b base : Nat} {t v sn what most : Int32} {S : MSt} (hL : L ≤ 120) (ha : a ≤ L) (hm : most < 1000) (hs : sn = to 1) (hw : (what = 12 ∧ base = 20) ∨ (what = 13 ∧ base = 56)) (h : TR tp a b t v S) : IR tp (c_row tp L base most a t v to) (n_lie what most tp L S sn) to := by
  have hb := beh_RR (P := True) (lo := 0) (hi := 35) trivial hL ha (by decide) h
  rcases e1 : c_beh tp L 0 35 a t v with ⟨⟨a2, b2, t2, v2⟩, ok2, x⟩
  rw [e1] at hb
  have l2 := beh_L ha e1
  cases ok2
  · rw [row_f e1]
    exact ⟨stk_num hm hb.1, fun z => absurd (show false = true from z) (by decide)⟩
  · have h2 : TR tp a2 b2 t2 v2 (n_num 0 35 tp L (n_must True tp L S)) := hb.1
    have ex : (n_must True tp L S).va = x := hb.2 rfl
    have hn := num_RR (lo := 0) (hi := most) l2.1 h2
    rcases e2 : c_num tp L 0 most a2 b2 t2 v2 with ⟨⟨a3, b3, t3, v3⟩, ok3⟩
    rw [e2] at hn
    cases ok3
    · rw [row_tf e1 e2]
      exact ⟨hn, fun z => absurd (show false = true from z) (by decide)⟩
    · rw [row_tt e1 e2]
      have ev : (n_num 0 35 tp L (n_must True tp L S)).va = v2 := h2.val (num_t1 e2)
      have hx36 := vin_of (beh_in e1) 36 (by decide)
      have hx := vin_lt hx36
      refine ⟨hn, fun _ => ⟨?_, ?_, fun _ => ?_, ?_⟩⟩
      · show upd to (base + ix x) v2 = T5 what (n_must True tp L S).va (n_num 0 35 tp L (n_must True tp L S)).va 0 0 to
        rw [ex, ev]
        unfold T5
        rcases hw with ⟨rfl, rfl⟩ | ⟨rfl, rfl⟩
        · rw [if_neg (by decide), if_neg (by decide), if_pos rfl]
        · rw [if_neg (by decide), if_neg (by decide), if_neg (by decide), if_pos rfl]
      · show sn = upd to (base + ix x) v2 1
        rw [upd_n (by omega), hs]
      · show vp_in (n_must True tp L S).va 36
        rw [ex]
        exact hx36
      · intro _ _ q1 q2
        rcases hw with ⟨z, _⟩ | ⟨z, _⟩
        · exact absurd z q1
        · exact absurd z q2
theorem owl_eq {to : Row} {x y b : Int32} (hy : (if b < 0 then to 9 else b) = y) : upd (upd to 8 x) 9 y = upd (p_tel to 9 b) 8 x := by
  subst hy
  funext j
  simp only [p_tel, upd]
  grind
theorem owl_IR {P : Prop} [Decidable P] {tp to : Row} {L a b : Nat} {t v sn : Int32} {S : MSt} (hL : L ≤ 120) (ha : a ≤ L) (hs : sn = to 1) (hP : p_wd tp 18 S) (h : TR tp a b t v S) : IR tp (c_owl tp L a t v to) (n_owl tp L S sn) to := by
  have hb := beh_RR (lo := 0) (hi := 35) hP hL ha (by decide) h
  rcases e1 : c_beh tp L 0 35 a t v with ⟨⟨a2, b2, t2, v2⟩, ok2, x⟩
  rw [e1] at hb
  have l2 := beh_L ha e1
  cases ok2
  · rw [owl_f e1]
    exact ⟨stk_head hb.1, fun z => absurd (show false = true from z) (by decide)⟩
  · have h2 : TR tp a2 b2 t2 v2 (n_num 0 35 tp L (n_must (p_wd tp 18 S) tp L S)) := hb.1
    have ex : (n_must (p_wd tp 18 S) tp L S).va = x := hb.2 rfl
    have hh := head_RR (was := to 9) l2.1 h2
    rcases e2 : c_head tp L (to 9) a2 b2 t2 v2 with ⟨⟨a3, b3, t3, v3⟩, ok3, y⟩
    rw [e2] at hh
    cases ok3
    · rw [owl_tf e1 e2]
      exact ⟨hh.1, fun z => absurd (show false = true from z) (by decide)⟩
    · rw [owl_tt e1 e2]
      refine ⟨hh.1, fun _ => ⟨?_, ?_, fun q => absurd (show (11 : Int32) = 12 ∨ (11 : Int32) = 13 from q) (by decide), fun _ q => absurd rfl q⟩⟩
      · show upd (upd to 8 x) 9 y = T5 11 (n_must (p_wd tp 18 S) tp L S).va (n_wof tp 8 4 (n_num 0 35 tp L (n_must (p_wd tp 18 S) tp L S))) 0 0 to
        rw [ex]
        unfold T5
        rw [if_neg (by decide), if_pos rfl]
        exact owl_eq hh.2
      · exact hs
theorem comes_eq {to : Row} {kind x w : Int32} : upd (p_add to kind x) (94 + 4 * ix (to 1)) w = p_comes to kind x w := by
  funext j
  simp only [p_add, p_comes, upd]
  grind
theorem strike_IR {tp to : Row} {L a b m : Nat} {t v sn kind : Int32} {S : MSt} (hL : L ≤ 120) (ha : a ≤ L) (hw : WF to) (hs : sn = to 1) (hk : kind = nI m) (hm : m < 7) (h : TR tp a b t v S) : IR tp (c_strike tp L kind a b t v to) (n_strike kind tp L S sn) to := by
  have k10 : ¬ kind = 10 := fun z => absurd ((nI_eq (a := m) (b := 10) (by omega) (by decide)).mp (hk.symm.trans z)) (by omega)
  have k11 : ¬ kind = 11 := fun z => absurd ((nI_eq (a := m) (b := 11) (by omega) (by decide)).mp (hk.symm.trans z)) (by omega)
  have k12 : ¬ kind = 12 := fun z => absurd ((nI_eq (a := m) (b := 12) (by omega) (by decide)).mp (hk.symm.trans z)) (by omega)
  have k13 : ¬ kind = 13 := fun z => absurd ((nI_eq (a := m) (b := 13) (by omega) (by decide)).mp (hk.symm.trans z)) (by omega)
  unfold c_strike
  by_cases h8 : to 1 < 8
  · rw [if_pos h8]
    have hP : sn < 8 := by rw [hs]; exact h8
    have hb := beh_RR (lo := 0) (hi := 35) hP hL ha (by decide) h
    rcases e1 : c_beh tp L 0 35 a t v with ⟨⟨a2, b2, t2, v2⟩, ok2, x⟩
    rw [e1] at hb
    have l2 := beh_L ha e1
    cases ok2
    · rw [cb_f rfl]
      exact ⟨stk_aft (by decide) (by decide) hb.1, fun z => absurd (show false = true from z) (by decide)⟩
    · rw [cb_t rfl]
      have h2 : TR tp a2 b2 t2 v2 (n_num 0 35 tp L (n_must (sn < 8) tp L S)) := hb.1
      have ex : (n_must (sn < 8) tp L S).va = x := hb.2 rfl
      have ho := opt_RR (to := p_add to kind x) (k := 94 + 4 * ix (to 1)) (j := 15) (wd := 15) (lo := 0) (hi := 9) (oth := 0) (by decide) rfl hL l2.1 rfl (by decide) h2
      rw [show wx 15 = 12 from rfl] at ho
      refine ⟨ho.1, fun z => ?_⟩
      have e : (c_opt tp L 15 0 9 (94 + 4 * ix (to 1)) (p_add to kind x) a2 b2 t2 v2).2.2 = p_comes to kind x (n_aft 12 0 0 tp L (n_num 0 35 tp L (n_must (sn < 8) tp L S))).2 := by
        rcases ho.2 z with ⟨q1, q2⟩ | ⟨q1, -⟩
        · rw [q1, q2]
          rfl
        · rw [q1]
          exact comes_eq
      refine ⟨?_, ?_, fun q => q.elim (fun q => absurd q k12) (fun q => absurd q k13), fun _ _ _ _ => in8 (vin_nn hw.many) h8⟩
      · show _ = T5 kind (n_must (sn < 8) tp L S).va (n_aft 12 0 0 tp L (n_num 0 35 tp L (n_must (sn < 8) tp L S))).2 0 0 to
        rw [ex]
        unfold T5
        rw [if_neg k10, if_neg k11, if_neg k12, if_neg k13]
        exact e
      · show sn + 1 = _
        rw [e, hs]
        exact upd_s.symm
  · rw [if_neg h8]
    refine ⟨?_, fun z => absurd (show false = true from z) (by decide)⟩
    show Stk tp b (n_aft 12 0 0 tp L (n_num 0 35 tp L (n_must (sn < 8) tp L S))).1
    refine stk_aft (by decide) (by decide) (stk_num (by decide) ?_)
    rw [nmust_n (fun z => h8 (hs ▸ z.2))]
    exact ⟨h.hb, Or.inl (by show ¬ (1 : Int32) = 0; decide)⟩
theorem item_IR {tp to : Row} {L a b : Nat} {t v sn : Int32} {S : MSt} (hL : L ≤ 120) (ha : a ≤ L) (hw : WF to) (hs : sn = to 1) (h : TR tp a b t v S) : IR tp (c_item tp L a b t v to) (n_item tp L S sn) to := by
  have hk := wof_R (base := 1) (n := 7) (off := 0) wx_k (by decide) h
  have w7 := h.wd (j := 7) (by decide)
  have w8 := h.wd (j := 8) (by decide)
  have w9 := h.wd (j := 9) (by decide)
  have w10 := h.wd (j := 10) (by decide)
  rw [show wx 7 = 13 from rfl] at w7
  rw [show wx 8 = 18 from rfl] at w8
  rw [show wx 9 = 16 from rfl] at w9
  rw [show wx 10 = 17 from rfl] at w10
  unfold c_item n_item
  by_cases c : t = 2 ∧ ¬ 10 < v
  · rw [if_pos c]
    obtain ⟨m, hm, e⟩ := h.v18 c.1
    have m10 : m ≤ 10 := by
      rcases Nat.lt_or_ge 10 m with q | q
      · exact absurd ((lt_nI (a := 10) (b := m) (by decide) (by omega)).mpr q) (by rw [← e]; exact c.2)
      · exact q
    have ne : ∀ j, j < 18 → (v = nI j ↔ m = j) := fun j hj => by
      rw [e]
      exact nI_eq (by omega) (by omega)
    by_cases q7 : m < 7
    · have e2 := hk.1 m c.1 e (by omega) (by omega)
      rw [show m - 0 = m from rfl] at e2
      have nn : ¬ n_wof tp 1 7 S < 0 := by rw [e2]; exact nI_nlt (a := m) (b := 0) (by omega) (by omega)
      rw [if_neg nn, if_neg (show ¬ v = 7 from fun z => by have := (ne 7 (by decide)).mp z; omega), if_neg (show ¬ v = 8 from fun z => by have := (ne 8 (by decide)).mp z; omega), if_neg (show ¬ v = 9 from fun z => by have := (ne 9 (by decide)).mp z; omega), if_neg (show ¬ v = 10 from fun z => by have := (ne 10 (by decide)).mp z; omega), e2, ← e]
      exact strike_IR hL ha hw hs e q7 h
    · have e2 := hk.2 (fun j hj ht hv z => by have := (ne j hj).mp hv; omega)
      rw [if_pos (show n_wof tp 1 7 S < 0 by rw [e2]; decide)]
      by_cases c7 : m = 7
      · have v7 : v = 7 := (ne 7 (by decide)).mpr c7
        rw [if_pos v7, if_pos (w7.mpr ⟨c.1, v7⟩)]
        exact mouse_IR hL ha hs h
      · rw [if_neg (show ¬ v = 7 from fun z => c7 ((ne 7 (by decide)).mp z)), if_neg (show ¬ p_wd tp 13 S from fun z => c7 ((ne 7 (by decide)).mp (w7.mp z).2))]
        by_cases c8 : m = 8
        · have v8 : v = 8 := (ne 8 (by decide)).mpr c8
          rw [if_pos v8, if_neg (show ¬ p_wd tp 16 S from fun z => by have := (ne 9 (by decide)).mp (w9.mp z).2; omega), if_neg (show ¬ p_wd tp 17 S from fun z => by have := (ne 10 (by decide)).mp (w10.mp z).2; omega)]
          exact owl_IR (P := True) hL ha hs (w8.mpr ⟨c.1, v8⟩) h
        · rw [if_neg (show ¬ v = 8 from fun z => c8 ((ne 8 (by decide)).mp z))]
          by_cases c9 : m = 9
          · have v9 : v = 9 := (ne 9 (by decide)).mpr c9
            rw [if_pos v9, if_pos (w9.mpr ⟨c.1, v9⟩)]
            exact lie_IR hL ha (by decide) hs (Or.inl ⟨rfl, rfl⟩) h
          · have v10 : v = 10 := (ne 10 (by decide)).mpr (by omega)
            rw [if_neg (show ¬ v = 9 from fun z => c9 ((ne 9 (by decide)).mp z)), if_pos v10, if_neg (show ¬ p_wd tp 16 S from fun z => c9 ((ne 9 (by decide)).mp (w9.mp z).2)), if_pos (w10.mpr ⟨c.1, v10⟩)]
            exact lie_IR hL ha (by decide) hs (Or.inr ⟨rfl, rfl⟩) h
  · rw [if_neg c]
    refine ⟨?_, fun z => absurd (show false = true from z) (by decide)⟩
    have no : ∀ j, j ≤ 10 → ¬ (t = 2 ∧ v = nI j) := fun j hj z => c ⟨z.1, by rw [z.2]; exact nI_nlt (a := 10) (b := j) hj (by decide)⟩
    have e2 := hk.2 (fun j hj ht hv z => no j (by omega) ⟨ht, hv⟩)
    rw [if_pos (show n_wof tp 1 7 S < 0 by rw [e2]; decide), if_neg (show ¬ p_wd tp 13 S from fun z => no 7 (by decide) (w7.mp z)), if_neg (show ¬ p_wd tp 16 S from fun z => no 9 (by decide) (w9.mp z)), if_neg (show ¬ p_wd tp 17 S from fun z => no 10 (by decide) (w10.mp z))]
    show Stk tp b (n_head tp L (n_num 0 35 tp L (n_must (p_wd tp 18 S) tp L S)))
    refine stk_head (stk_num (by decide) ?_)
    rw [nmust_n (fun z => no 8 (by decide) (w8.mp z.2))]
    exact ⟨h.hb, Or.inl (by show ¬ (1 : Int32) = 0; decide)⟩
theorem itm_lo {it : Row} {im k : Nat} {r : MI} (h : k < 5 * im) : p_itm it im r k = it k := by
  unfold p_itm p_item
  rw [upd_n (by omega), upd_n (by omega), upd_n (by omega), upd_n (by omega), upd_n (by omega)]
theorem itm_0 {it : Row} {im : Nat} {r : MI} : p_itm it im r (5 * im) = r.2.2.1 := by
  unfold p_itm p_item
  rw [upd_n (by omega), upd_n (by omega), upd_n (by omega), upd_n (by omega), upd_s]
theorem itm_1 {it : Row} {im : Nat} {r : MI} : p_itm it im r (5 * im + 1) = r.2.2.2.1 := by
  unfold p_itm p_item
  rw [upd_n (by omega), upd_n (by omega), upd_n (by omega), upd_s]
theorem itm_2 {it : Row} {im : Nat} {r : MI} : p_itm it im r (5 * im + 2) = r.2.2.2.2.1 := by
  unfold p_itm p_item
  rw [upd_n (by omega), upd_n (by omega), upd_s]
theorem itm_3 {it : Row} {im : Nat} {r : MI} : p_itm it im r (5 * im + 3) = r.2.2.2.2.2.1 := by
  unfold p_itm p_item
  rw [upd_n (by omega), upd_s]
theorem itm_4 {it : Row} {im : Nat} {r : MI} : p_itm it im r (5 * im + 4) = r.2.2.2.2.2.2 := by
  unfold p_itm p_item
  rw [upd_s]
theorem tell_T5 {it : Row} {n : Nat} {w : Row} : p_tell it n w = T5 (it n) (it (n + 1)) (it (n + 2)) (it (n + 3)) (it (n + 4)) w := rfl
theorem tells_lo {it it' : Row} : ∀ k, ∀ w, (∀ j, j < 5 * k → it' j = it j) → p_tells it' k w = p_tells it k w
  | 0, w, _ => rfl
  | k + 1, w, h => by
    show p_tell it' (5 * k) (p_tells it' k w) = p_tell it (5 * k) (p_tells it k w)
    rw [tells_lo k w (fun j hj => h j (by omega)), tell_T5, tell_T5, h _ (by omega), h _ (by omega), h _ (by omega), h _ (by omega), h _ (by omega)]
def TD (it : Row) (im : Nat) (d to : Row) : Prop := p_tells it im d = to ∧ (∀ k, k < im → OKit it (5 * k) (p_tells it k d)) ∧ ∀ k, k ≤ im → WF (p_tells it k d)
theorem TD.told {it : Row} {im : Nat} {d to : Row} (h : TD it im d to) : p_tells it im d = to := h.1
theorem TD.ok {it : Row} {im : Nat} {d to : Row} (h : TD it im d to) : ∀ k, k < im → OKit it (5 * k) (p_tells it k d) := h.2.1
theorem TD.wf {it : Row} {im : Nat} {d to : Row} (h : TD it im d to) : ∀ k, k ≤ im → WF (p_tells it k d) := h.2.2
theorem TD.next {it : Row} {im : Nat} {d to to' : Row} {r : MI} (h : TD it im d to) (hw : WF to') (ht : to' = T5r r to) (h3 : r.2.2.1 = 12 ∨ r.2.2.1 = 13 → vp_in r.2.2.2.1 36) (h4 : ¬ r.2.2.1 = 10 → ¬ r.2.2.1 = 11 → ¬ r.2.2.1 = 12 → ¬ r.2.2.1 = 13 → vp_in (to 1) 8) : TD (p_itm it im r) (im + 1) d to' := by
  have lo : ∀ k, k ≤ im → p_tells (p_itm it im r) k d = p_tells it k d := fun k hk => tells_lo k d (fun j hj => itm_lo (by omega))
  have e : p_tells (p_itm it im r) (im + 1) d = to' := by
    show p_tell (p_itm it im r) (5 * im) (p_tells (p_itm it im r) im d) = to'
    rw [lo im (Nat.le_refl _), h.told, tell_T5, itm_0, itm_1, itm_2, itm_3, itm_4, ht]
  refine ⟨e, fun k hk => ?_, fun k hk => ?_⟩
  · by_cases q : k = im
    · subst q
      rw [lo k (Nat.le_refl _), h.told]
      unfold OKit
      rw [itm_0, itm_1]
      exact ⟨h3, h4⟩
    · rw [lo k (by omega)]
      have := h.ok k (by omega)
      unfold OKit at this ⊢
      rw [itm_lo (by omega), itm_lo (by omega)]
      exact this
  · by_cases q : k = im + 1
    · rw [q, e]
      exact hw
    · rw [lo k (by omega)]
      exact h.wf k (by omega)
def FR (tp : Row) (L : Nat) (d : Row) (x : RS × Bool × Int32 × Row) (r : MSt × Int32 × Row × Nat) : Prop :=
  if x.2.1 = true then (n_fin tp L r.1).wr = 0 ∧ x.2.2.1 = nI r.2.2.2 ∧ TD r.2.2.1 r.2.2.2 d x.2.2.2 else (n_fin tp L r.1).bg = x.1.2.1 ∧ ¬ (n_fin tp L r.1).wr = 0
theorem fr_stk {tp d : Row} {L : Nat} {s : RS} {n : Int32} {to it : Row} {S : MSt} {sn : Int32} {im : Nat} (h : Stk tp s.2.1 S) : FR tp L d (s, false, n, to) (S, sn, it, im) := stk_fin h
theorem loop_FR {tp d : Row} {L : Nat} (hL : L ≤ 120) : ∀ f (n : Int32) (a b : Nat) (t v : Int32) (to : Row) (S : MSt) (sn : Int32) (it : Row) (im : Nat), a ≤ L → b ≤ L → 121 ≤ a + f → WF to → sn = to 1 → n = nI im → TD it im d to → TR tp a b t v S → FR tp L d (c_loop tp L f n a b t v to) (n_loop tp L f S sn it im)
  | 0, n, a, b, t, v, to, S, sn, it, im, ha, hb, hf, hw, hs, hn, hd, h => absurd hf (by omega)
  | f + 1, n, a, b, t, v, to, S, sn, it, im, ha, hb, hf, hw, hs, hn, hd, h => by
    by_cases h3 : t = 3
    · rw [lop_3 h3, nloop_t (h.semi.mpr h3)]
      have hr := must_RR (P := True) trivial ha h
      rcases e : c_next tp L a t v with ⟨⟨a2, b2, t2, v2⟩, ok2⟩
      rw [e] at hr
      have l2 := next_L ha e
      cases ok2
      · rw [cn_f rfl]
        have st := stk_item (sn := sn) (L := L) (show Stk tp b2 (n_must True tp L S) from hr)
        rw [stk_loop st]
        exact fr_stk st
      · rw [cn_t rfl]
        have h2 : TR tp a2 b2 t2 v2 (n_must True tp L S) := hr
        have hi := item_IR hL l2.1 hw hs h2
        rcases e2 : c_item tp L a2 b2 t2 v2 to with ⟨⟨a3, b3, t3, v3⟩, ok3, to3⟩
        rw [e2] at hi
        have l3 := item_L l2.1 l2.2 e2
        cases ok3
        · rw [cc_f rfl]
          have st : Stk tp b3 (n_item tp L (n_must True tp L S) sn).1 := hi.1
          rw [stk_loop st]
          exact fr_stk st
        · rw [cc_t rfl]
          obtain ⟨t1, t2', t3', t4⟩ := hi.2 rfl
          have hw3 := item_W hw (next_2 e) e2
          have adv := next_S hL ha e (fun z => absurd (show false = true from congrArg (fun z => z.2.1) ((item_n0 z).symm.trans e2)) (by decide))
          exact loop_FR hL f _ _ _ _ _ _ _ _ _ _ l3.2.1 l3.2.2 (by omega) hw3 t2' (by rw [hn, nI_1]) (hd.next hw3 t1 t3' t4) hi.1
    · rw [nloop_f (fun z => h3 (h.semi.mp z))]
      by_cases h0 : t = 0
      · rw [lop_0 h3 h0]
        refine ⟨?_, hn, hd⟩
        show (n_must (S.so = 0) tp L S).wr = 0
        rw [nmust_p h.hw (h.fin.mpr h0), nnext_wr]
        exact h.hw
      · rw [lop_x h3 h0]
        show (n_must (S.so = 0) tp L S).bg = b ∧ ¬ (n_must (S.so = 0) tp L S).wr = 0
        rw [nmust_n (fun z => h0 (h.fin.mp z.2))]
        exact ⟨h.hb, by show ¬ (1 : Int32) = 0; decide⟩
theorem whole_FR {tp d it : Row} {L : Nat} {t v : Int32} (hL : L ≤ 120) (hw : WF d) : FR tp L d (c_whole tp L t v d) (n_read tp L (d 1) it) := by
  unfold c_whole n_read
  have hr := next_RR (tp := tp) (t := t) (v := v) (S := ⟨0, 0, 0, 0, 0⟩) (Nat.zero_le L) rfl rfl
  rcases e : c_next tp L 0 t v with ⟨⟨a2, b2, t2, v2⟩, ok2⟩
  rw [e] at hr
  have l2 := next_L (Nat.zero_le L) e
  cases ok2
  · rw [cn_f rfl]
    have st := stk_item (sn := d 1) (L := L) (show Stk tp b2 (n_start tp L) from hr)
    rw [stk_loop st]
    exact fr_stk st
  · rw [cn_t rfl]
    have h2 : TR tp a2 b2 t2 v2 (n_start tp L) := hr
    have hi := item_IR (sn := d 1) hL l2.1 hw rfl h2
    rcases e2 : c_item tp L a2 b2 t2 v2 d with ⟨⟨a3, b3, t3, v3⟩, ok3, to3⟩
    rw [e2] at hi
    have l3 := item_L l2.1 l2.2 e2
    cases ok3
    · rw [cc_f rfl]
      have st : Stk tp b3 (n_item tp L (n_start tp L) (d 1)).1 := hi.1
      rw [stk_loop st]
      exact fr_stk st
    · rw [cc_t rfl]
      obtain ⟨t1, t2', t3', t4⟩ := hi.2 rfl
      have hw3 := item_W hw (next_2 e) e2
      have d0 : TD it 0 d d := ⟨rfl, fun k hk => absurd hk (Nat.not_lt_zero k), fun k hk => by rw [show k = 0 by omega]; exact hw⟩
      exact loop_FR hL 121 1 _ _ _ _ _ _ _ _ 1 l3.2.1 l3.2.2 (by omega) hw3 t2' rfl (d0.next hw3 t1 t3' t4) hi.1
