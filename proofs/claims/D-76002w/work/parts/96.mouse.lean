theorem hdV_X2_isWord : yX2_isWord.cls = RX2 ∧ yX2_isWord.cls ≠ "java/lang/invoke/MethodHandle" ∧ yX2_isWord.cls ≠ "java/lang/invoke/VarHandle" ∧ (parseMethodDescriptor yX2_isWord.desc).map (fun d => d.parameters.length) = some 1 := by decide +kernel
abbrev RS : Type := Nat × Nat × Int32 × Int32
def cb {α β : Type} (r : RS × Bool × α) (z : β) (k : Nat → Nat → Int32 → Int32 → α → RS × Bool × β) : RS × Bool × β := if r.2.1 = true then k r.1.1 r.1.2.1 r.1.2.2.1 r.1.2.2.2 r.2.2 else (r.1, false, z)
theorem cb_t {α β : Type} {r : RS × Bool × α} {z : β} {k : Nat → Nat → Int32 → Int32 → α → RS × Bool × β} {a b : Nat} {t v : Int32} {x : α} (h : r = ((a, b, t, v), true, x)) : cb r z k = k a b t v x := by
  subst h
  rfl
theorem cb_f {α β : Type} {r : RS × Bool × α} {z : β} {k : Nat → Nat → Int32 → Int32 → α → RS × Bool × β} {s : RS} {x : α} (h : r = (s, false, x)) : cb r z k = (s, false, z) := by
  subst h
  rfl
theorem head_L {tp : Row} {L a b a1 b1 : Nat} {was t v t1 v1 x : Int32} {ok : Bool} (h : a ≤ L) (hb : b ≤ L) (hq : c_head tp L was a b t v = ((a1, b1, t1, v1), ok, x)) : a1 ≤ L ∧ b1 ≤ L := by
  unfold c_head at hq
  split at hq
  · exact next_L (ok := ok) h (Prod.ext (congrArg (fun z => z.1) hq) (congrArg (fun z => z.2.1) hq))
  · have h1 : a = a1 := congrArg (fun z => z.1.1) hq
    have h2 : b = b1 := congrArg (fun z => z.1.2.1) hq
    omega
def c_opt (tp : Row) (L : Nat) (wd lo hi : Int32) (k : Nat) (to : Row) (a b : Nat) (t v : Int32) : RS × Bool × Row := if t = 2 ∧ v = wd then cb (c_beh tp L lo hi a t v) to (fun a b t v x => ((a, b, t, v), true, upd to k x)) else ((a, b, t, v), true, to)
theorem opt_n {tp to : Row} {L k a b : Nat} {wd lo hi t v : Int32} (h : ¬ (t = 2 ∧ v = wd)) : c_opt tp L wd lo hi k to a b t v = ((a, b, t, v), true, to) := if_neg h
theorem opt_f {tp to : Row} {L k a b : Nat} {wd lo hi t v x : Int32} {s : RS} (h : t = 2 ∧ v = wd) (e : c_beh tp L lo hi a t v = (s, false, x)) : c_opt tp L wd lo hi k to a b t v = (s, false, to) := (if_pos h).trans (cb_f e)
theorem opt_t {tp to : Row} {L k a b a1 b1 : Nat} {wd lo hi t v t1 v1 x : Int32} (h : t = 2 ∧ v = wd) (e : c_beh tp L lo hi a t v = ((a1, b1, t1, v1), true, x)) : c_opt tp L wd lo hi k to a b t v = ((a1, b1, t1, v1), true, upd to k x) := (if_pos h).trans (cb_t e)
def c_mouse (tp : Row) (L a : Nat) (t v : Int32) (to : Row) : RS × Bool × Row :=
  cb (c_beh tp L 0 35 a t v) to fun a b t v x => cb (c_head tp L (to 4) a b t v) (upd (upd to 3 x) 7 0) fun a b t v y => cb (c_opt tp L 16 1 9 5 (upd (upd (upd to 3 x) 7 0) 4 y) a b t v) (upd (upd (upd to 3 x) 7 0) 4 y) fun a b t v to => c_opt tp L 17 0 9 6 to a b t v
def c_strike (tp : Row) (L : Nat) (kind : Int32) (a b : Nat) (t v : Int32) (to : Row) : RS × Bool × Row :=
  if to 1 < 8 then cb (c_beh tp L 0 35 a t v) to fun a b t v x => c_opt tp L 15 0 9 (94 + 4 * ix (to 1)) (p_add to kind x) a b t v else ((a, b, t, v), false, to)
theorem in8 {x : Int32} (h0 : ¬ x < 0) (h8 : x < 8) : vp_in x 8 := by
  refine vin_of (hi := 7) ⟨h0, ?_⟩ 8 (by decide)
  intro z
  rw [Int32.lt_iff_toInt_lt] at h8 z
  have e8 : (8 : Int32).toInt = 8 := by decide
  have e7 : (7 : Int32).toInt = 7 := by decide
  omega
theorem add_m1 {w : Row} {kind aim : Int32} : p_add w kind aim 1 - 1 = w 1 := by
  have h : p_add w kind aim 1 = w 1 + 1 := by
    unfold p_add
    exact upd_s
  rw [h, Int32.add_sub_cancel]
set_option maxRecDepth 100000 in
theorem m_X2_mouse_T {l : Launch} {G : Gc} {d kp as un to sc fd tp sh : Row} {sp : Nat → Option Nat} {L a b : Nat} {t v : Int32} (hL : L ≤ 120) (ha : a ≤ L) {a1 b1 : Nat} {t1 v1 : Int32} {to1 : Row} (hq : c_mouse tp L a t v to = ((a1, b1, t1, v1), true, to1)) : Cm l yX2_mouse (ws_ yX2_mouse cX2_mouse 1 none) ({ frames := 9, cells := 0, slots := 0, locals := 196 }) (cF G) [.ref (G.ad 5 2)] (cct G (pg d kp as un to (rd sc L a b t v) fd tp sh) sp) (fun _ : Unit => none) (fun _ => cct G (pg d kp as un to1 (rd sc L a1 b1 t1 v1) fd tp sh) sp) := by
  refine Cm.start (by decide) (Nat.le_of_ble_eq_true rfl) ?_
  intro p e s m below meth c hf hX hC ls hl
  obtain ⟨hx, hb, hr, hml, hown, hts, hlocks⟩ := hf
  have hl : lv_has ls 1 [(0, .ref (G.ad 5 2))] := hl
  have hown : s.vm.findClass "OwlEars$Reader" = some m.cls := hown
  unfold c_mouse at hq
  rcases e2 : c_beh tp L 0 35 a t v with ⟨⟨a2, b2, t2, v2⟩, ok2, x2⟩
  cases ok2
  · rw [cb_f e2] at hq
    exact absurd (show false = true from congrArg (fun z => z.2.1) hq) (by decide)
  · rw [cb_t e2] at hq
    have l2 := beh_L ha e2
    rcases e3 : c_head tp L (to 4) a2 b2 t2 v2 with ⟨⟨a3, b3, t3, v3⟩, ok3, x3⟩
    cases ok3
    · rw [cb_f e3] at hq
      exact absurd (show false = true from congrArg (fun z => z.2.1) hq) (by decide)
    · rw [cb_t e3] at hq
      have l3 := head_L l2.1 l2.2 e3
      by_cases hw4 : t3 = 2 ∧ v3 = 16
      · rcases e4 : c_beh tp L 1 9 a3 t3 v3 with ⟨⟨a4, b4, t4, v4⟩, ok4, x4⟩
        cases ok4
        · rw [cb_f (opt_f hw4 e4)] at hq
          exact absurd (show false = true from congrArg (fun z => z.2.1) hq) (by decide)
        · rw [cb_t (opt_t hw4 e4)] at hq
          have l4 := beh_L l3.1 e4
          by_cases hw5 : t4 = 2 ∧ v4 = 17
          · rcases e5 : c_beh tp L 0 9 a4 t4 v4 with ⟨⟨a5, b5, t5, v5⟩, ok5, x5⟩
            cases ok5
            · rw [opt_f hw5 e5] at hq
              exact absurd (show false = true from congrArg (fun z => z.2.1) hq) (by decide)
            · rw [opt_t hw5 e5] at hq
              have l5 := beh_L l4.1 e5
              have h1 : a5 = a1 := congrArg (fun z => z.1.1) hq
              have h2 : b5 = b1 := congrArg (fun z => z.1.2.1) hq
              have h3 : t5 = t1 := congrArg (fun z => z.1.2.2.1) hq
              have h4 : v5 = v1 := congrArg (fun z => z.1.2.2.2) hq
              have h5 : (upd (upd (upd (upd (upd to 3 x2) 7 0) 4 x3) 5 x4) 6 x5) = to1 := congrArg (fun z => z.2.2) hq
              refine lv_aload_n hx hb dX2_mouse_0 rfl (lv_at hl 0 rfl) ?_
              refine fg_get (C := RX2) (T := TX2) (N := 8) (ci := 3) (g := 5) (i := 2) (v := .ref (G.ad 4 0)) hx hb hown hts hX hC in_X2 rfl (cin rfl) rfl 2 (by decide) q288 (fun _ h => h) rfl dX2_mouse_1 ?_
              refine fg_getN (C := RX4) (T := TX4) (N := 9) (ci := 0) (g := 4) (i := 0) (v := .ref (G.ad 4 3)) hx hb hown hts hX hC in_X4 rfl (cin rfl) rfl 2 (by decide) (hX.2.2.1.F q245) (fun _ h => h) rfl dX2_mouse_4 ?_
              refine lv_iconst (v := 0) hx hb dX2_mouse_7 rfl ?_
              refine lv_aload_n hx hb dX2_mouse_8 rfl (lv_at hl 0 rfl) ?_
              refine lv_iconst (v := 0) hx hb dX2_mouse_9 rfl ?_
              refine lv_bipush (v := 35) hx hb dX2_mouse_10 rfl ?_
              refine fc_V (As := [.int 0, .int 35]) (rest := [.int 0, .ref (G.ad 4 3)]) hx hb hml hown hts hX hC (m_X2_behind_T (sc := sc) (L := L) (a := a) (b := b) (t := t) (v := v) hL ha 0 35 x2 e2) (lw_V q1151 q1153 qs44 q113 q1154) hdV_X2_behind ⟨rfl, rfl⟩ ⟨Nat.le_of_ble_eq_true rfl, Nat.le_of_ble_eq_true rfl⟩ (fx_recv (g := 5) (i := 2) (ci := 3) (q := (RX2, TX2, 8)) hX hC (cin rfl) rfl rfl) hl.1 rfl (Nat.le_of_ble_eq_true rfl) ⟨Nat.zero_le _, Nat.zero_le _⟩ dX2_mouse_12 (fun _ H locs hC => ?_)
              refine W.eq (g2 := F0 m 15 ls [.int x2, .int 0, .ref (G.ad 4 3)]) rfl ?_
              refine fg_iast (g := 4) (i := 3) (t0 := 0) hx hb hX hC (cin rfl) rfl rfl (vin_b rfl) (cct G (pg d kp as un (upd to 3 x2) (rd sc L a2 b2 t2 v2) fd tp sh) sp) (cs4_mouse (k := 0) (by decide)) dX2_mouse_15 (fun H locs hC => ?_)
              refine lv_aload_n hx hb dX2_mouse_16 rfl (lv_at hl 0 rfl) ?_
              refine fg_get (C := RX2) (T := TX2) (N := 8) (ci := 3) (g := 5) (i := 2) (v := .ref (G.ad 4 0)) hx hb hown hts hX hC in_X2 rfl (cin rfl) rfl 2 (by decide) q288 (fun _ h => h) rfl dX2_mouse_17 ?_
              refine fg_getN (C := RX4) (T := TX4) (N := 9) (ci := 0) (g := 4) (i := 0) (v := .ref (G.ad 4 3)) hx hb hown hts hX hC in_X4 rfl (cin rfl) rfl 2 (by decide) (hX.2.2.1.F q245) (fun _ h => h) rfl dX2_mouse_20 ?_
              refine lv_iconst (v := 4) hx hb dX2_mouse_23 rfl ?_
              refine lv_iconst (v := 0) hx hb dX2_mouse_24 rfl ?_
              refine fg_iast (g := 4) (i := 3) (t0 := 0) hx hb hX hC (cin rfl) rfl rfl (vin_b rfl) (cct G (pg d kp as un (upd (upd to 3 x2) 7 0) (rd sc L a2 b2 t2 v2) fd tp sh) sp) (cs4_mouse (k := 4) (by decide)) dX2_mouse_25 (fun H locs hC => ?_)
              refine lv_aload_n hx hb dX2_mouse_26 rfl (lv_at hl 0 rfl) ?_
              refine fg_get (C := RX2) (T := TX2) (N := 8) (ci := 3) (g := 5) (i := 2) (v := .ref (G.ad 4 0)) hx hb hown hts hX hC in_X2 rfl (cin rfl) rfl 2 (by decide) q288 (fun _ h => h) rfl dX2_mouse_27 ?_
              refine fg_getN (C := RX4) (T := TX4) (N := 9) (ci := 0) (g := 4) (i := 0) (v := .ref (G.ad 4 3)) hx hb hown hts hX hC in_X4 rfl (cin rfl) rfl 2 (by decide) (hX.2.2.1.F q245) (fun _ h => h) rfl dX2_mouse_30 ?_
              refine lv_iconst (v := 1) hx hb dX2_mouse_33 rfl ?_
              refine lv_aload_n hx hb dX2_mouse_34 rfl (lv_at hl 0 rfl) ?_
              refine lv_aload_n hx hb dX2_mouse_35 rfl (lv_at hl 0 rfl) ?_
              refine fg_get (C := RX2) (T := TX2) (N := 8) (ci := 3) (g := 5) (i := 2) (v := .ref (G.ad 4 0)) hx hb hown hts hX hC in_X2 rfl (cin rfl) rfl 2 (by decide) q288 (fun _ h => h) rfl dX2_mouse_36 ?_
              refine fg_getN (C := RX4) (T := TX4) (N := 9) (ci := 0) (g := 4) (i := 0) (v := .ref (G.ad 4 3)) hx hb hown hts hX hC in_X4 rfl (cin rfl) rfl 2 (by decide) (hX.2.2.1.F q245) (fun _ h => h) rfl dX2_mouse_39 ?_
              refine lv_iconst (v := 1) hx hb dX2_mouse_42 rfl ?_
              refine fg_iald (g := 4) (i := 3) (t0 := 0) (v := to 4) hx hb hX hC (cin rfl) rfl rfl (vin_b rfl) rfl dX2_mouse_43 ?_
              refine fc_V (As := [.int (to 4)]) (rest := [.int 1, .ref (G.ad 4 3)]) hx hb hml hown hts hX hC (m_X2_heading_T (sc := sc) (L := L) (a := a2) (b := b2) (t := t2) (v := v2) hL l2.1 (to 4) x3 e3) (lw_V q1159 q1161 qs46 q113 q1162) hdV_X2_heading ⟨rfl, rfl⟩ ⟨Nat.le_of_ble_eq_true rfl, Nat.le_of_ble_eq_true rfl⟩ (fx_recv (g := 5) (i := 2) (ci := 3) (q := (RX2, TX2, 8)) hX hC (cin rfl) rfl rfl) hl.1 rfl (Nat.le_of_ble_eq_true rfl) ⟨Nat.zero_le _, Nat.zero_le _⟩ dX2_mouse_44 (fun _ H locs hC => ?_)
              refine W.eq (g2 := F0 m 47 ls [.int x3, .int 1, .ref (G.ad 4 3)]) rfl ?_
              refine fg_iast (g := 4) (i := 3) (t0 := 0) hx hb hX hC (cin rfl) rfl rfl (vin_b rfl) (cct G (pg d kp as un (upd (upd (upd to 3 x2) 7 0) 4 x3) (rd sc L a3 b3 t3 v3) fd tp sh) sp) (cs4_mouse (k := 1) (by decide)) dX2_mouse_47 (fun H locs hC => ?_)
              refine lv_aload_n hx hb dX2_mouse_48 rfl (lv_at hl 0 rfl) ?_
              refine lv_bipush (v := 16) hx hb dX2_mouse_49 rfl ?_
              refine fc_V (As := [.int 16]) (rest := []) hx hb hml hown hts hX hC (m_X2_isWord (sc := sc) (L := L) (a := a3) (b := b3) (t := t3) (v := v3) hL 16) (lw_V q1163 q1165 qs47 q113 q1166) hdV_X2_isWord ⟨rfl, rfl⟩ ⟨Nat.le_of_ble_eq_true rfl, Nat.le_of_ble_eq_true rfl⟩ (fx_recv (g := 5) (i := 2) (ci := 3) (q := (RX2, TX2, 8)) hX hC (cin rfl) rfl rfl) hl.1 rfl (Nat.le_of_ble_eq_true rfl) ⟨Nat.zero_le _, Nat.zero_le _⟩ dX2_mouse_51 (fun _ H locs hC => ?_)
              refine W.eq (g2 := F0 m 54 ls [.int (b2i (t3 = 2 ∧ v3 = 16))]) rfl ?_
              refine fb_eq (tgt := 73) hx hb dX2_mouse_54 (by decide) (fun z_4 => absurd hw4 z_4) (fun _ => ?_)
              refine lv_aload_n hx hb dX2_mouse_57 rfl (lv_at hl 0 rfl) ?_
              refine fg_get (C := RX2) (T := TX2) (N := 8) (ci := 3) (g := 5) (i := 2) (v := .ref (G.ad 4 0)) hx hb hown hts hX hC in_X2 rfl (cin rfl) rfl 2 (by decide) q288 (fun _ h => h) rfl dX2_mouse_58 ?_
              refine fg_getN (C := RX4) (T := TX4) (N := 9) (ci := 0) (g := 4) (i := 0) (v := .ref (G.ad 4 3)) hx hb hown hts hX hC in_X4 rfl (cin rfl) rfl 2 (by decide) (hX.2.2.1.F q245) (fun _ h => h) rfl dX2_mouse_61 ?_
              refine lv_iconst (v := 2) hx hb dX2_mouse_64 rfl ?_
              refine lv_aload_n hx hb dX2_mouse_65 rfl (lv_at hl 0 rfl) ?_
              refine lv_iconst (v := 1) hx hb dX2_mouse_66 rfl ?_
              refine lv_bipush (v := 9) hx hb dX2_mouse_67 rfl ?_
              refine fc_V (As := [.int 1, .int 9]) (rest := [.int 2, .ref (G.ad 4 3)]) hx hb hml hown hts hX hC (m_X2_behind_T (sc := sc) (L := L) (a := a3) (b := b3) (t := t3) (v := v3) hL l3.1 1 9 x4 e4) (lw_V q1151 q1153 qs44 q113 q1154) hdV_X2_behind ⟨rfl, rfl⟩ ⟨Nat.le_of_ble_eq_true rfl, Nat.le_of_ble_eq_true rfl⟩ (fx_recv (g := 5) (i := 2) (ci := 3) (q := (RX2, TX2, 8)) hX hC (cin rfl) rfl rfl) hl.1 rfl (Nat.le_of_ble_eq_true rfl) ⟨Nat.zero_le _, Nat.zero_le _⟩ dX2_mouse_69 (fun _ H locs hC => ?_)
              refine W.eq (g2 := F0 m 72 ls [.int x4, .int 2, .ref (G.ad 4 3)]) rfl ?_
              refine fg_iast (g := 4) (i := 3) (t0 := 0) hx hb hX hC (cin rfl) rfl rfl (vin_b rfl) (cct G (pg d kp as un (upd (upd (upd (upd to 3 x2) 7 0) 4 x3) 5 x4) (rd sc L a4 b4 t4 v4) fd tp sh) sp) (cs4_mouse (k := 2) (by decide)) dX2_mouse_72 (fun H locs hC => ?_)
              refine lv_aload_n hx hb dX2_mouse_73 rfl (lv_at hl 0 rfl) ?_
              refine lv_bipush (v := 17) hx hb dX2_mouse_74 rfl ?_
              refine fc_V (As := [.int 17]) (rest := []) hx hb hml hown hts hX hC (m_X2_isWord (sc := sc) (L := L) (a := a4) (b := b4) (t := t4) (v := v4) hL 17) (lw_V q1163 q1165 qs47 q113 q1166) hdV_X2_isWord ⟨rfl, rfl⟩ ⟨Nat.le_of_ble_eq_true rfl, Nat.le_of_ble_eq_true rfl⟩ (fx_recv (g := 5) (i := 2) (ci := 3) (q := (RX2, TX2, 8)) hX hC (cin rfl) rfl rfl) hl.1 rfl (Nat.le_of_ble_eq_true rfl) ⟨Nat.zero_le _, Nat.zero_le _⟩ dX2_mouse_76 (fun _ H locs hC => ?_)
              refine W.eq (g2 := F0 m 79 ls [.int (b2i (t4 = 2 ∧ v4 = 17))]) rfl ?_
              refine fb_eq (tgt := 98) hx hb dX2_mouse_79 (by decide) (fun z_7 => absurd hw5 z_7) (fun _ => ?_)
              refine lv_aload_n hx hb dX2_mouse_82 rfl (lv_at hl 0 rfl) ?_
              refine fg_get (C := RX2) (T := TX2) (N := 8) (ci := 3) (g := 5) (i := 2) (v := .ref (G.ad 4 0)) hx hb hown hts hX hC in_X2 rfl (cin rfl) rfl 2 (by decide) q288 (fun _ h => h) rfl dX2_mouse_83 ?_
              refine fg_getN (C := RX4) (T := TX4) (N := 9) (ci := 0) (g := 4) (i := 0) (v := .ref (G.ad 4 3)) hx hb hown hts hX hC in_X4 rfl (cin rfl) rfl 2 (by decide) (hX.2.2.1.F q245) (fun _ h => h) rfl dX2_mouse_86 ?_
              refine lv_iconst (v := 3) hx hb dX2_mouse_89 rfl ?_
              refine lv_aload_n hx hb dX2_mouse_90 rfl (lv_at hl 0 rfl) ?_
              refine lv_iconst (v := 0) hx hb dX2_mouse_91 rfl ?_
              refine lv_bipush (v := 9) hx hb dX2_mouse_92 rfl ?_
              refine fc_V (As := [.int 0, .int 9]) (rest := [.int 3, .ref (G.ad 4 3)]) hx hb hml hown hts hX hC (m_X2_behind_T (sc := sc) (L := L) (a := a4) (b := b4) (t := t4) (v := v4) hL l4.1 0 9 x5 e5) (lw_V q1151 q1153 qs44 q113 q1154) hdV_X2_behind ⟨rfl, rfl⟩ ⟨Nat.le_of_ble_eq_true rfl, Nat.le_of_ble_eq_true rfl⟩ (fx_recv (g := 5) (i := 2) (ci := 3) (q := (RX2, TX2, 8)) hX hC (cin rfl) rfl rfl) hl.1 rfl (Nat.le_of_ble_eq_true rfl) ⟨Nat.zero_le _, Nat.zero_le _⟩ dX2_mouse_94 (fun _ H locs hC => ?_)
              refine W.eq (g2 := F0 m 97 ls [.int x5, .int 3, .ref (G.ad 4 3)]) rfl ?_
              refine fg_iast (g := 4) (i := 3) (t0 := 0) hx hb hX hC (cin rfl) rfl rfl (vin_b rfl) (cct G (pg d kp as un (upd (upd (upd (upd (upd to 3 x2) 7 0) 4 x3) 5 x4) 6 x5) (rd sc L a5 b5 t5 v5) fd tp sh) sp) (cs4_mouse (k := 3) (by decide)) dX2_mouse_97 (fun H locs hC => ?_)
              exact fr_v hx hb hr hlocks hX hC () rfl ((congrArg (fun z => cct G (pg d kp as un z (rd sc L a5 b5 t5 v5) fd tp sh) sp) (h5)).trans (congrArg (fun z => cct G (pg d kp as un to1 z fd tp sh) sp) (by rw [h1, h2, h3, h4]))) dX2_mouse_98
          · rw [opt_n hw5] at hq
            have h1 : a4 = a1 := congrArg (fun z => z.1.1) hq
            have h2 : b4 = b1 := congrArg (fun z => z.1.2.1) hq
            have h3 : t4 = t1 := congrArg (fun z => z.1.2.2.1) hq
            have h4 : v4 = v1 := congrArg (fun z => z.1.2.2.2) hq
            have h5 : (upd (upd (upd (upd to 3 x2) 7 0) 4 x3) 5 x4) = to1 := congrArg (fun z => z.2.2) hq
            refine lv_aload_n hx hb dX2_mouse_0 rfl (lv_at hl 0 rfl) ?_
            refine fg_get (C := RX2) (T := TX2) (N := 8) (ci := 3) (g := 5) (i := 2) (v := .ref (G.ad 4 0)) hx hb hown hts hX hC in_X2 rfl (cin rfl) rfl 2 (by decide) q288 (fun _ h => h) rfl dX2_mouse_1 ?_
            refine fg_getN (C := RX4) (T := TX4) (N := 9) (ci := 0) (g := 4) (i := 0) (v := .ref (G.ad 4 3)) hx hb hown hts hX hC in_X4 rfl (cin rfl) rfl 2 (by decide) (hX.2.2.1.F q245) (fun _ h => h) rfl dX2_mouse_4 ?_
            refine lv_iconst (v := 0) hx hb dX2_mouse_7 rfl ?_
            refine lv_aload_n hx hb dX2_mouse_8 rfl (lv_at hl 0 rfl) ?_
            refine lv_iconst (v := 0) hx hb dX2_mouse_9 rfl ?_
            refine lv_bipush (v := 35) hx hb dX2_mouse_10 rfl ?_
            refine fc_V (As := [.int 0, .int 35]) (rest := [.int 0, .ref (G.ad 4 3)]) hx hb hml hown hts hX hC (m_X2_behind_T (sc := sc) (L := L) (a := a) (b := b) (t := t) (v := v) hL ha 0 35 x2 e2) (lw_V q1151 q1153 qs44 q113 q1154) hdV_X2_behind ⟨rfl, rfl⟩ ⟨Nat.le_of_ble_eq_true rfl, Nat.le_of_ble_eq_true rfl⟩ (fx_recv (g := 5) (i := 2) (ci := 3) (q := (RX2, TX2, 8)) hX hC (cin rfl) rfl rfl) hl.1 rfl (Nat.le_of_ble_eq_true rfl) ⟨Nat.zero_le _, Nat.zero_le _⟩ dX2_mouse_12 (fun _ H locs hC => ?_)
            refine W.eq (g2 := F0 m 15 ls [.int x2, .int 0, .ref (G.ad 4 3)]) rfl ?_
            refine fg_iast (g := 4) (i := 3) (t0 := 0) hx hb hX hC (cin rfl) rfl rfl (vin_b rfl) (cct G (pg d kp as un (upd to 3 x2) (rd sc L a2 b2 t2 v2) fd tp sh) sp) (cs4_mouse (k := 0) (by decide)) dX2_mouse_15 (fun H locs hC => ?_)
            refine lv_aload_n hx hb dX2_mouse_16 rfl (lv_at hl 0 rfl) ?_
            refine fg_get (C := RX2) (T := TX2) (N := 8) (ci := 3) (g := 5) (i := 2) (v := .ref (G.ad 4 0)) hx hb hown hts hX hC in_X2 rfl (cin rfl) rfl 2 (by decide) q288 (fun _ h => h) rfl dX2_mouse_17 ?_
            refine fg_getN (C := RX4) (T := TX4) (N := 9) (ci := 0) (g := 4) (i := 0) (v := .ref (G.ad 4 3)) hx hb hown hts hX hC in_X4 rfl (cin rfl) rfl 2 (by decide) (hX.2.2.1.F q245) (fun _ h => h) rfl dX2_mouse_20 ?_
            refine lv_iconst (v := 4) hx hb dX2_mouse_23 rfl ?_
            refine lv_iconst (v := 0) hx hb dX2_mouse_24 rfl ?_
            refine fg_iast (g := 4) (i := 3) (t0 := 0) hx hb hX hC (cin rfl) rfl rfl (vin_b rfl) (cct G (pg d kp as un (upd (upd to 3 x2) 7 0) (rd sc L a2 b2 t2 v2) fd tp sh) sp) (cs4_mouse (k := 4) (by decide)) dX2_mouse_25 (fun H locs hC => ?_)
            refine lv_aload_n hx hb dX2_mouse_26 rfl (lv_at hl 0 rfl) ?_
            refine fg_get (C := RX2) (T := TX2) (N := 8) (ci := 3) (g := 5) (i := 2) (v := .ref (G.ad 4 0)) hx hb hown hts hX hC in_X2 rfl (cin rfl) rfl 2 (by decide) q288 (fun _ h => h) rfl dX2_mouse_27 ?_
            refine fg_getN (C := RX4) (T := TX4) (N := 9) (ci := 0) (g := 4) (i := 0) (v := .ref (G.ad 4 3)) hx hb hown hts hX hC in_X4 rfl (cin rfl) rfl 2 (by decide) (hX.2.2.1.F q245) (fun _ h => h) rfl dX2_mouse_30 ?_
            refine lv_iconst (v := 1) hx hb dX2_mouse_33 rfl ?_
            refine lv_aload_n hx hb dX2_mouse_34 rfl (lv_at hl 0 rfl) ?_
            refine lv_aload_n hx hb dX2_mouse_35 rfl (lv_at hl 0 rfl) ?_
            refine fg_get (C := RX2) (T := TX2) (N := 8) (ci := 3) (g := 5) (i := 2) (v := .ref (G.ad 4 0)) hx hb hown hts hX hC in_X2 rfl (cin rfl) rfl 2 (by decide) q288 (fun _ h => h) rfl dX2_mouse_36 ?_
            refine fg_getN (C := RX4) (T := TX4) (N := 9) (ci := 0) (g := 4) (i := 0) (v := .ref (G.ad 4 3)) hx hb hown hts hX hC in_X4 rfl (cin rfl) rfl 2 (by decide) (hX.2.2.1.F q245) (fun _ h => h) rfl dX2_mouse_39 ?_
            refine lv_iconst (v := 1) hx hb dX2_mouse_42 rfl ?_
            refine fg_iald (g := 4) (i := 3) (t0 := 0) (v := to 4) hx hb hX hC (cin rfl) rfl rfl (vin_b rfl) rfl dX2_mouse_43 ?_
            refine fc_V (As := [.int (to 4)]) (rest := [.int 1, .ref (G.ad 4 3)]) hx hb hml hown hts hX hC (m_X2_heading_T (sc := sc) (L := L) (a := a2) (b := b2) (t := t2) (v := v2) hL l2.1 (to 4) x3 e3) (lw_V q1159 q1161 qs46 q113 q1162) hdV_X2_heading ⟨rfl, rfl⟩ ⟨Nat.le_of_ble_eq_true rfl, Nat.le_of_ble_eq_true rfl⟩ (fx_recv (g := 5) (i := 2) (ci := 3) (q := (RX2, TX2, 8)) hX hC (cin rfl) rfl rfl) hl.1 rfl (Nat.le_of_ble_eq_true rfl) ⟨Nat.zero_le _, Nat.zero_le _⟩ dX2_mouse_44 (fun _ H locs hC => ?_)
            refine W.eq (g2 := F0 m 47 ls [.int x3, .int 1, .ref (G.ad 4 3)]) rfl ?_
            refine fg_iast (g := 4) (i := 3) (t0 := 0) hx hb hX hC (cin rfl) rfl rfl (vin_b rfl) (cct G (pg d kp as un (upd (upd (upd to 3 x2) 7 0) 4 x3) (rd sc L a3 b3 t3 v3) fd tp sh) sp) (cs4_mouse (k := 1) (by decide)) dX2_mouse_47 (fun H locs hC => ?_)
            refine lv_aload_n hx hb dX2_mouse_48 rfl (lv_at hl 0 rfl) ?_
            refine lv_bipush (v := 16) hx hb dX2_mouse_49 rfl ?_
            refine fc_V (As := [.int 16]) (rest := []) hx hb hml hown hts hX hC (m_X2_isWord (sc := sc) (L := L) (a := a3) (b := b3) (t := t3) (v := v3) hL 16) (lw_V q1163 q1165 qs47 q113 q1166) hdV_X2_isWord ⟨rfl, rfl⟩ ⟨Nat.le_of_ble_eq_true rfl, Nat.le_of_ble_eq_true rfl⟩ (fx_recv (g := 5) (i := 2) (ci := 3) (q := (RX2, TX2, 8)) hX hC (cin rfl) rfl rfl) hl.1 rfl (Nat.le_of_ble_eq_true rfl) ⟨Nat.zero_le _, Nat.zero_le _⟩ dX2_mouse_51 (fun _ H locs hC => ?_)
            refine W.eq (g2 := F0 m 54 ls [.int (b2i (t3 = 2 ∧ v3 = 16))]) rfl ?_
            refine fb_eq (tgt := 73) hx hb dX2_mouse_54 (by decide) (fun z_12 => absurd hw4 z_12) (fun _ => ?_)
            refine lv_aload_n hx hb dX2_mouse_57 rfl (lv_at hl 0 rfl) ?_
            refine fg_get (C := RX2) (T := TX2) (N := 8) (ci := 3) (g := 5) (i := 2) (v := .ref (G.ad 4 0)) hx hb hown hts hX hC in_X2 rfl (cin rfl) rfl 2 (by decide) q288 (fun _ h => h) rfl dX2_mouse_58 ?_
            refine fg_getN (C := RX4) (T := TX4) (N := 9) (ci := 0) (g := 4) (i := 0) (v := .ref (G.ad 4 3)) hx hb hown hts hX hC in_X4 rfl (cin rfl) rfl 2 (by decide) (hX.2.2.1.F q245) (fun _ h => h) rfl dX2_mouse_61 ?_
            refine lv_iconst (v := 2) hx hb dX2_mouse_64 rfl ?_
            refine lv_aload_n hx hb dX2_mouse_65 rfl (lv_at hl 0 rfl) ?_
            refine lv_iconst (v := 1) hx hb dX2_mouse_66 rfl ?_
            refine lv_bipush (v := 9) hx hb dX2_mouse_67 rfl ?_
            refine fc_V (As := [.int 1, .int 9]) (rest := [.int 2, .ref (G.ad 4 3)]) hx hb hml hown hts hX hC (m_X2_behind_T (sc := sc) (L := L) (a := a3) (b := b3) (t := t3) (v := v3) hL l3.1 1 9 x4 e4) (lw_V q1151 q1153 qs44 q113 q1154) hdV_X2_behind ⟨rfl, rfl⟩ ⟨Nat.le_of_ble_eq_true rfl, Nat.le_of_ble_eq_true rfl⟩ (fx_recv (g := 5) (i := 2) (ci := 3) (q := (RX2, TX2, 8)) hX hC (cin rfl) rfl rfl) hl.1 rfl (Nat.le_of_ble_eq_true rfl) ⟨Nat.zero_le _, Nat.zero_le _⟩ dX2_mouse_69 (fun _ H locs hC => ?_)
            refine W.eq (g2 := F0 m 72 ls [.int x4, .int 2, .ref (G.ad 4 3)]) rfl ?_
            refine fg_iast (g := 4) (i := 3) (t0 := 0) hx hb hX hC (cin rfl) rfl rfl (vin_b rfl) (cct G (pg d kp as un (upd (upd (upd (upd to 3 x2) 7 0) 4 x3) 5 x4) (rd sc L a4 b4 t4 v4) fd tp sh) sp) (cs4_mouse (k := 2) (by decide)) dX2_mouse_72 (fun H locs hC => ?_)
            refine lv_aload_n hx hb dX2_mouse_73 rfl (lv_at hl 0 rfl) ?_
            refine lv_bipush (v := 17) hx hb dX2_mouse_74 rfl ?_
            refine fc_V (As := [.int 17]) (rest := []) hx hb hml hown hts hX hC (m_X2_isWord (sc := sc) (L := L) (a := a4) (b := b4) (t := t4) (v := v4) hL 17) (lw_V q1163 q1165 qs47 q113 q1166) hdV_X2_isWord ⟨rfl, rfl⟩ ⟨Nat.le_of_ble_eq_true rfl, Nat.le_of_ble_eq_true rfl⟩ (fx_recv (g := 5) (i := 2) (ci := 3) (q := (RX2, TX2, 8)) hX hC (cin rfl) rfl rfl) hl.1 rfl (Nat.le_of_ble_eq_true rfl) ⟨Nat.zero_le _, Nat.zero_le _⟩ dX2_mouse_76 (fun _ H locs hC => ?_)
            refine W.eq (g2 := F0 m 79 ls [.int (b2i (t4 = 2 ∧ v4 = 17))]) rfl ?_
            refine fb_eq (tgt := 98) hx hb dX2_mouse_79 (by decide) (fun _ => ?_) (fun z_15 => absurd z_15 hw5)
            exact fr_v hx hb hr hlocks hX hC () rfl ((congrArg (fun z => cct G (pg d kp as un z (rd sc L a4 b4 t4 v4) fd tp sh) sp) (h5)).trans (congrArg (fun z => cct G (pg d kp as un to1 z fd tp sh) sp) (by rw [h1, h2, h3, h4]))) dX2_mouse_98
      · rw [cb_t (opt_n hw4)] at hq
        by_cases hw5 : t3 = 2 ∧ v3 = 17
        · rcases e5 : c_beh tp L 0 9 a3 t3 v3 with ⟨⟨a5, b5, t5, v5⟩, ok5, x5⟩
          cases ok5
          · rw [opt_f hw5 e5] at hq
            exact absurd (show false = true from congrArg (fun z => z.2.1) hq) (by decide)
          · rw [opt_t hw5 e5] at hq
            have l5 := beh_L l3.1 e5
            have h1 : a5 = a1 := congrArg (fun z => z.1.1) hq
            have h2 : b5 = b1 := congrArg (fun z => z.1.2.1) hq
            have h3 : t5 = t1 := congrArg (fun z => z.1.2.2.1) hq
            have h4 : v5 = v1 := congrArg (fun z => z.1.2.2.2) hq
            have h5 : (upd (upd (upd (upd to 3 x2) 7 0) 4 x3) 6 x5) = to1 := congrArg (fun z => z.2.2) hq
            refine lv_aload_n hx hb dX2_mouse_0 rfl (lv_at hl 0 rfl) ?_
            refine fg_get (C := RX2) (T := TX2) (N := 8) (ci := 3) (g := 5) (i := 2) (v := .ref (G.ad 4 0)) hx hb hown hts hX hC in_X2 rfl (cin rfl) rfl 2 (by decide) q288 (fun _ h => h) rfl dX2_mouse_1 ?_
            refine fg_getN (C := RX4) (T := TX4) (N := 9) (ci := 0) (g := 4) (i := 0) (v := .ref (G.ad 4 3)) hx hb hown hts hX hC in_X4 rfl (cin rfl) rfl 2 (by decide) (hX.2.2.1.F q245) (fun _ h => h) rfl dX2_mouse_4 ?_
            refine lv_iconst (v := 0) hx hb dX2_mouse_7 rfl ?_
            refine lv_aload_n hx hb dX2_mouse_8 rfl (lv_at hl 0 rfl) ?_
            refine lv_iconst (v := 0) hx hb dX2_mouse_9 rfl ?_
            refine lv_bipush (v := 35) hx hb dX2_mouse_10 rfl ?_
            refine fc_V (As := [.int 0, .int 35]) (rest := [.int 0, .ref (G.ad 4 3)]) hx hb hml hown hts hX hC (m_X2_behind_T (sc := sc) (L := L) (a := a) (b := b) (t := t) (v := v) hL ha 0 35 x2 e2) (lw_V q1151 q1153 qs44 q113 q1154) hdV_X2_behind ⟨rfl, rfl⟩ ⟨Nat.le_of_ble_eq_true rfl, Nat.le_of_ble_eq_true rfl⟩ (fx_recv (g := 5) (i := 2) (ci := 3) (q := (RX2, TX2, 8)) hX hC (cin rfl) rfl rfl) hl.1 rfl (Nat.le_of_ble_eq_true rfl) ⟨Nat.zero_le _, Nat.zero_le _⟩ dX2_mouse_12 (fun _ H locs hC => ?_)
            refine W.eq (g2 := F0 m 15 ls [.int x2, .int 0, .ref (G.ad 4 3)]) rfl ?_
            refine fg_iast (g := 4) (i := 3) (t0 := 0) hx hb hX hC (cin rfl) rfl rfl (vin_b rfl) (cct G (pg d kp as un (upd to 3 x2) (rd sc L a2 b2 t2 v2) fd tp sh) sp) (cs4_mouse (k := 0) (by decide)) dX2_mouse_15 (fun H locs hC => ?_)
            refine lv_aload_n hx hb dX2_mouse_16 rfl (lv_at hl 0 rfl) ?_
            refine fg_get (C := RX2) (T := TX2) (N := 8) (ci := 3) (g := 5) (i := 2) (v := .ref (G.ad 4 0)) hx hb hown hts hX hC in_X2 rfl (cin rfl) rfl 2 (by decide) q288 (fun _ h => h) rfl dX2_mouse_17 ?_
            refine fg_getN (C := RX4) (T := TX4) (N := 9) (ci := 0) (g := 4) (i := 0) (v := .ref (G.ad 4 3)) hx hb hown hts hX hC in_X4 rfl (cin rfl) rfl 2 (by decide) (hX.2.2.1.F q245) (fun _ h => h) rfl dX2_mouse_20 ?_
            refine lv_iconst (v := 4) hx hb dX2_mouse_23 rfl ?_
            refine lv_iconst (v := 0) hx hb dX2_mouse_24 rfl ?_
            refine fg_iast (g := 4) (i := 3) (t0 := 0) hx hb hX hC (cin rfl) rfl rfl (vin_b rfl) (cct G (pg d kp as un (upd (upd to 3 x2) 7 0) (rd sc L a2 b2 t2 v2) fd tp sh) sp) (cs4_mouse (k := 4) (by decide)) dX2_mouse_25 (fun H locs hC => ?_)
            refine lv_aload_n hx hb dX2_mouse_26 rfl (lv_at hl 0 rfl) ?_
            refine fg_get (C := RX2) (T := TX2) (N := 8) (ci := 3) (g := 5) (i := 2) (v := .ref (G.ad 4 0)) hx hb hown hts hX hC in_X2 rfl (cin rfl) rfl 2 (by decide) q288 (fun _ h => h) rfl dX2_mouse_27 ?_
            refine fg_getN (C := RX4) (T := TX4) (N := 9) (ci := 0) (g := 4) (i := 0) (v := .ref (G.ad 4 3)) hx hb hown hts hX hC in_X4 rfl (cin rfl) rfl 2 (by decide) (hX.2.2.1.F q245) (fun _ h => h) rfl dX2_mouse_30 ?_
            refine lv_iconst (v := 1) hx hb dX2_mouse_33 rfl ?_
            refine lv_aload_n hx hb dX2_mouse_34 rfl (lv_at hl 0 rfl) ?_
            refine lv_aload_n hx hb dX2_mouse_35 rfl (lv_at hl 0 rfl) ?_
            refine fg_get (C := RX2) (T := TX2) (N := 8) (ci := 3) (g := 5) (i := 2) (v := .ref (G.ad 4 0)) hx hb hown hts hX hC in_X2 rfl (cin rfl) rfl 2 (by decide) q288 (fun _ h => h) rfl dX2_mouse_36 ?_
            refine fg_getN (C := RX4) (T := TX4) (N := 9) (ci := 0) (g := 4) (i := 0) (v := .ref (G.ad 4 3)) hx hb hown hts hX hC in_X4 rfl (cin rfl) rfl 2 (by decide) (hX.2.2.1.F q245) (fun _ h => h) rfl dX2_mouse_39 ?_
            refine lv_iconst (v := 1) hx hb dX2_mouse_42 rfl ?_
            refine fg_iald (g := 4) (i := 3) (t0 := 0) (v := to 4) hx hb hX hC (cin rfl) rfl rfl (vin_b rfl) rfl dX2_mouse_43 ?_
            refine fc_V (As := [.int (to 4)]) (rest := [.int 1, .ref (G.ad 4 3)]) hx hb hml hown hts hX hC (m_X2_heading_T (sc := sc) (L := L) (a := a2) (b := b2) (t := t2) (v := v2) hL l2.1 (to 4) x3 e3) (lw_V q1159 q1161 qs46 q113 q1162) hdV_X2_heading ⟨rfl, rfl⟩ ⟨Nat.le_of_ble_eq_true rfl, Nat.le_of_ble_eq_true rfl⟩ (fx_recv (g := 5) (i := 2) (ci := 3) (q := (RX2, TX2, 8)) hX hC (cin rfl) rfl rfl) hl.1 rfl (Nat.le_of_ble_eq_true rfl) ⟨Nat.zero_le _, Nat.zero_le _⟩ dX2_mouse_44 (fun _ H locs hC => ?_)
            refine W.eq (g2 := F0 m 47 ls [.int x3, .int 1, .ref (G.ad 4 3)]) rfl ?_
            refine fg_iast (g := 4) (i := 3) (t0 := 0) hx hb hX hC (cin rfl) rfl rfl (vin_b rfl) (cct G (pg d kp as un (upd (upd (upd to 3 x2) 7 0) 4 x3) (rd sc L a3 b3 t3 v3) fd tp sh) sp) (cs4_mouse (k := 1) (by decide)) dX2_mouse_47 (fun H locs hC => ?_)
            refine lv_aload_n hx hb dX2_mouse_48 rfl (lv_at hl 0 rfl) ?_
            refine lv_bipush (v := 16) hx hb dX2_mouse_49 rfl ?_
            refine fc_V (As := [.int 16]) (rest := []) hx hb hml hown hts hX hC (m_X2_isWord (sc := sc) (L := L) (a := a3) (b := b3) (t := t3) (v := v3) hL 16) (lw_V q1163 q1165 qs47 q113 q1166) hdV_X2_isWord ⟨rfl, rfl⟩ ⟨Nat.le_of_ble_eq_true rfl, Nat.le_of_ble_eq_true rfl⟩ (fx_recv (g := 5) (i := 2) (ci := 3) (q := (RX2, TX2, 8)) hX hC (cin rfl) rfl rfl) hl.1 rfl (Nat.le_of_ble_eq_true rfl) ⟨Nat.zero_le _, Nat.zero_le _⟩ dX2_mouse_51 (fun _ H locs hC => ?_)
            refine W.eq (g2 := F0 m 54 ls [.int (b2i (t3 = 2 ∧ v3 = 16))]) rfl ?_
            refine fb_eq (tgt := 73) hx hb dX2_mouse_54 (by decide) (fun _ => ?_) (fun z_19 => absurd z_19 hw4)
            refine lv_aload_n hx hb dX2_mouse_73 rfl (lv_at hl 0 rfl) ?_
            refine lv_bipush (v := 17) hx hb dX2_mouse_74 rfl ?_
            refine fc_V (As := [.int 17]) (rest := []) hx hb hml hown hts hX hC (m_X2_isWord (sc := sc) (L := L) (a := a3) (b := b3) (t := t3) (v := v3) hL 17) (lw_V q1163 q1165 qs47 q113 q1166) hdV_X2_isWord ⟨rfl, rfl⟩ ⟨Nat.le_of_ble_eq_true rfl, Nat.le_of_ble_eq_true rfl⟩ (fx_recv (g := 5) (i := 2) (ci := 3) (q := (RX2, TX2, 8)) hX hC (cin rfl) rfl rfl) hl.1 rfl (Nat.le_of_ble_eq_true rfl) ⟨Nat.zero_le _, Nat.zero_le _⟩ dX2_mouse_76 (fun _ H locs hC => ?_)
            refine W.eq (g2 := F0 m 79 ls [.int (b2i (t3 = 2 ∧ v3 = 17))]) rfl ?_
            refine fb_eq (tgt := 98) hx hb dX2_mouse_79 (by decide) (fun z_21 => absurd hw5 z_21) (fun _ => ?_)
            refine lv_aload_n hx hb dX2_mouse_82 rfl (lv_at hl 0 rfl) ?_
            refine fg_get (C := RX2) (T := TX2) (N := 8) (ci := 3) (g := 5) (i := 2) (v := .ref (G.ad 4 0)) hx hb hown hts hX hC in_X2 rfl (cin rfl) rfl 2 (by decide) q288 (fun _ h => h) rfl dX2_mouse_83 ?_
            refine fg_getN (C := RX4) (T := TX4) (N := 9) (ci := 0) (g := 4) (i := 0) (v := .ref (G.ad 4 3)) hx hb hown hts hX hC in_X4 rfl (cin rfl) rfl 2 (by decide) (hX.2.2.1.F q245) (fun _ h => h) rfl dX2_mouse_86 ?_
            refine lv_iconst (v := 3) hx hb dX2_mouse_89 rfl ?_
            refine lv_aload_n hx hb dX2_mouse_90 rfl (lv_at hl 0 rfl) ?_
            refine lv_iconst (v := 0) hx hb dX2_mouse_91 rfl ?_
            refine lv_bipush (v := 9) hx hb dX2_mouse_92 rfl ?_
            refine fc_V (As := [.int 0, .int 9]) (rest := [.int 3, .ref (G.ad 4 3)]) hx hb hml hown hts hX hC (m_X2_behind_T (sc := sc) (L := L) (a := a3) (b := b3) (t := t3) (v := v3) hL l3.1 0 9 x5 e5) (lw_V q1151 q1153 qs44 q113 q1154) hdV_X2_behind ⟨rfl, rfl⟩ ⟨Nat.le_of_ble_eq_true rfl, Nat.le_of_ble_eq_true rfl⟩ (fx_recv (g := 5) (i := 2) (ci := 3) (q := (RX2, TX2, 8)) hX hC (cin rfl) rfl rfl) hl.1 rfl (Nat.le_of_ble_eq_true rfl) ⟨Nat.zero_le _, Nat.zero_le _⟩ dX2_mouse_94 (fun _ H locs hC => ?_)
            refine W.eq (g2 := F0 m 97 ls [.int x5, .int 3, .ref (G.ad 4 3)]) rfl ?_
            refine fg_iast (g := 4) (i := 3) (t0 := 0) hx hb hX hC (cin rfl) rfl rfl (vin_b rfl) (cct G (pg d kp as un (upd (upd (upd (upd to 3 x2) 7 0) 4 x3) 6 x5) (rd sc L a5 b5 t5 v5) fd tp sh) sp) (cs4_mouse (k := 3) (by decide)) dX2_mouse_97 (fun H locs hC => ?_)
            exact fr_v hx hb hr hlocks hX hC () rfl ((congrArg (fun z => cct G (pg d kp as un z (rd sc L a5 b5 t5 v5) fd tp sh) sp) (h5)).trans (congrArg (fun z => cct G (pg d kp as un to1 z fd tp sh) sp) (by rw [h1, h2, h3, h4]))) dX2_mouse_98
        · rw [opt_n hw5] at hq
          have h1 : a3 = a1 := congrArg (fun z => z.1.1) hq
          have h2 : b3 = b1 := congrArg (fun z => z.1.2.1) hq
          have h3 : t3 = t1 := congrArg (fun z => z.1.2.2.1) hq
          have h4 : v3 = v1 := congrArg (fun z => z.1.2.2.2) hq
          have h5 : (upd (upd (upd to 3 x2) 7 0) 4 x3) = to1 := congrArg (fun z => z.2.2) hq
          refine lv_aload_n hx hb dX2_mouse_0 rfl (lv_at hl 0 rfl) ?_
          refine fg_get (C := RX2) (T := TX2) (N := 8) (ci := 3) (g := 5) (i := 2) (v := .ref (G.ad 4 0)) hx hb hown hts hX hC in_X2 rfl (cin rfl) rfl 2 (by decide) q288 (fun _ h => h) rfl dX2_mouse_1 ?_
          refine fg_getN (C := RX4) (T := TX4) (N := 9) (ci := 0) (g := 4) (i := 0) (v := .ref (G.ad 4 3)) hx hb hown hts hX hC in_X4 rfl (cin rfl) rfl 2 (by decide) (hX.2.2.1.F q245) (fun _ h => h) rfl dX2_mouse_4 ?_
          refine lv_iconst (v := 0) hx hb dX2_mouse_7 rfl ?_
          refine lv_aload_n hx hb dX2_mouse_8 rfl (lv_at hl 0 rfl) ?_
          refine lv_iconst (v := 0) hx hb dX2_mouse_9 rfl ?_
          refine lv_bipush (v := 35) hx hb dX2_mouse_10 rfl ?_
          refine fc_V (As := [.int 0, .int 35]) (rest := [.int 0, .ref (G.ad 4 3)]) hx hb hml hown hts hX hC (m_X2_behind_T (sc := sc) (L := L) (a := a) (b := b) (t := t) (v := v) hL ha 0 35 x2 e2) (lw_V q1151 q1153 qs44 q113 q1154) hdV_X2_behind ⟨rfl, rfl⟩ ⟨Nat.le_of_ble_eq_true rfl, Nat.le_of_ble_eq_true rfl⟩ (fx_recv (g := 5) (i := 2) (ci := 3) (q := (RX2, TX2, 8)) hX hC (cin rfl) rfl rfl) hl.1 rfl (Nat.le_of_ble_eq_true rfl) ⟨Nat.zero_le _, Nat.zero_le _⟩ dX2_mouse_12 (fun _ H locs hC => ?_)
          refine W.eq (g2 := F0 m 15 ls [.int x2, .int 0, .ref (G.ad 4 3)]) rfl ?_
          refine fg_iast (g := 4) (i := 3) (t0 := 0) hx hb hX hC (cin rfl) rfl rfl (vin_b rfl) (cct G (pg d kp as un (upd to 3 x2) (rd sc L a2 b2 t2 v2) fd tp sh) sp) (cs4_mouse (k := 0) (by decide)) dX2_mouse_15 (fun H locs hC => ?_)
          refine lv_aload_n hx hb dX2_mouse_16 rfl (lv_at hl 0 rfl) ?_
          refine fg_get (C := RX2) (T := TX2) (N := 8) (ci := 3) (g := 5) (i := 2) (v := .ref (G.ad 4 0)) hx hb hown hts hX hC in_X2 rfl (cin rfl) rfl 2 (by decide) q288 (fun _ h => h) rfl dX2_mouse_17 ?_
          refine fg_getN (C := RX4) (T := TX4) (N := 9) (ci := 0) (g := 4) (i := 0) (v := .ref (G.ad 4 3)) hx hb hown hts hX hC in_X4 rfl (cin rfl) rfl 2 (by decide) (hX.2.2.1.F q245) (fun _ h => h) rfl dX2_mouse_20 ?_
          refine lv_iconst (v := 4) hx hb dX2_mouse_23 rfl ?_
          refine lv_iconst (v := 0) hx hb dX2_mouse_24 rfl ?_
          refine fg_iast (g := 4) (i := 3) (t0 := 0) hx hb hX hC (cin rfl) rfl rfl (vin_b rfl) (cct G (pg d kp as un (upd (upd to 3 x2) 7 0) (rd sc L a2 b2 t2 v2) fd tp sh) sp) (cs4_mouse (k := 4) (by decide)) dX2_mouse_25 (fun H locs hC => ?_)
          refine lv_aload_n hx hb dX2_mouse_26 rfl (lv_at hl 0 rfl) ?_
          refine fg_get (C := RX2) (T := TX2) (N := 8) (ci := 3) (g := 5) (i := 2) (v := .ref (G.ad 4 0)) hx hb hown hts hX hC in_X2 rfl (cin rfl) rfl 2 (by decide) q288 (fun _ h => h) rfl dX2_mouse_27 ?_
          refine fg_getN (C := RX4) (T := TX4) (N := 9) (ci := 0) (g := 4) (i := 0) (v := .ref (G.ad 4 3)) hx hb hown hts hX hC in_X4 rfl (cin rfl) rfl 2 (by decide) (hX.2.2.1.F q245) (fun _ h => h) rfl dX2_mouse_30 ?_
          refine lv_iconst (v := 1) hx hb dX2_mouse_33 rfl ?_
          refine lv_aload_n hx hb dX2_mouse_34 rfl (lv_at hl 0 rfl) ?_
          refine lv_aload_n hx hb dX2_mouse_35 rfl (lv_at hl 0 rfl) ?_
          refine fg_get (C := RX2) (T := TX2) (N := 8) (ci := 3) (g := 5) (i := 2) (v := .ref (G.ad 4 0)) hx hb hown hts hX hC in_X2 rfl (cin rfl) rfl 2 (by decide) q288 (fun _ h => h) rfl dX2_mouse_36 ?_
          refine fg_getN (C := RX4) (T := TX4) (N := 9) (ci := 0) (g := 4) (i := 0) (v := .ref (G.ad 4 3)) hx hb hown hts hX hC in_X4 rfl (cin rfl) rfl 2 (by decide) (hX.2.2.1.F q245) (fun _ h => h) rfl dX2_mouse_39 ?_
          refine lv_iconst (v := 1) hx hb dX2_mouse_42 rfl ?_
          refine fg_iald (g := 4) (i := 3) (t0 := 0) (v := to 4) hx hb hX hC (cin rfl) rfl rfl (vin_b rfl) rfl dX2_mouse_43 ?_
          refine fc_V (As := [.int (to 4)]) (rest := [.int 1, .ref (G.ad 4 3)]) hx hb hml hown hts hX hC (m_X2_heading_T (sc := sc) (L := L) (a := a2) (b := b2) (t := t2) (v := v2) hL l2.1 (to 4) x3 e3) (lw_V q1159 q1161 qs46 q113 q1162) hdV_X2_heading ⟨rfl, rfl⟩ ⟨Nat.le_of_ble_eq_true rfl, Nat.le_of_ble_eq_true rfl⟩ (fx_recv (g := 5) (i := 2) (ci := 3) (q := (RX2, TX2, 8)) hX hC (cin rfl) rfl rfl) hl.1 rfl (Nat.le_of_ble_eq_true rfl) ⟨Nat.zero_le _, Nat.zero_le _⟩ dX2_mouse_44 (fun _ H locs hC => ?_)
          refine W.eq (g2 := F0 m 47 ls [.int x3, .int 1, .ref (G.ad 4 3)]) rfl ?_
          refine fg_iast (g := 4) (i := 3) (t0 := 0) hx hb hX hC (cin rfl) rfl rfl (vin_b rfl) (cct G (pg d kp as un (upd (upd (upd to 3 x2) 7 0) 4 x3) (rd sc L a3 b3 t3 v3) fd tp sh) sp) (cs4_mouse (k := 1) (by decide)) dX2_mouse_47 (fun H locs hC => ?_)
          refine lv_aload_n hx hb dX2_mouse_48 rfl (lv_at hl 0 rfl) ?_
          refine lv_bipush (v := 16) hx hb dX2_mouse_49 rfl ?_
          refine fc_V (As := [.int 16]) (rest := []) hx hb hml hown hts hX hC (m_X2_isWord (sc := sc) (L := L) (a := a3) (b := b3) (t := t3) (v := v3) hL 16) (lw_V q1163 q1165 qs47 q113 q1166) hdV_X2_isWord ⟨rfl, rfl⟩ ⟨Nat.le_of_ble_eq_true rfl, Nat.le_of_ble_eq_true rfl⟩ (fx_recv (g := 5) (i := 2) (ci := 3) (q := (RX2, TX2, 8)) hX hC (cin rfl) rfl rfl) hl.1 rfl (Nat.le_of_ble_eq_true rfl) ⟨Nat.zero_le _, Nat.zero_le _⟩ dX2_mouse_51 (fun _ H locs hC => ?_)
          refine W.eq (g2 := F0 m 54 ls [.int (b2i (t3 = 2 ∧ v3 = 16))]) rfl ?_
          refine fb_eq (tgt := 73) hx hb dX2_mouse_54 (by decide) (fun _ => ?_) (fun z_26 => absurd z_26 hw4)
          refine lv_aload_n hx hb dX2_mouse_73 rfl (lv_at hl 0 rfl) ?_
          refine lv_bipush (v := 17) hx hb dX2_mouse_74 rfl ?_
          refine fc_V (As := [.int 17]) (rest := []) hx hb hml hown hts hX hC (m_X2_isWord (sc := sc) (L := L) (a := a3) (b := b3) (t := t3) (v := v3) hL 17) (lw_V q1163 q1165 qs47 q113 q1166) hdV_X2_isWord ⟨rfl, rfl⟩ ⟨Nat.le_of_ble_eq_true rfl, Nat.le_of_ble_eq_true rfl⟩ (fx_recv (g := 5) (i := 2) (ci := 3) (q := (RX2, TX2, 8)) hX hC (cin rfl) rfl rfl) hl.1 rfl (Nat.le_of_ble_eq_true rfl) ⟨Nat.zero_le _, Nat.zero_le _⟩ dX2_mouse_76 (fun _ H locs hC => ?_)
          refine W.eq (g2 := F0 m 79 ls [.int (b2i (t3 = 2 ∧ v3 = 17))]) rfl ?_
          refine fb_eq (tgt := 98) hx hb dX2_mouse_79 (by decide) (fun _ => ?_) (fun z_28 => absurd z_28 hw5)
          exact fr_v hx hb hr hlocks hX hC () rfl ((congrArg (fun z => cct G (pg d kp as un z (rd sc L a3 b3 t3 v3) fd tp sh) sp) (h5)).trans (congrArg (fun z => cct G (pg d kp as un to1 z fd tp sh) sp) (by rw [h1, h2, h3, h4]))) dX2_mouse_98
set_option maxRecDepth 100000 in
theorem m_X2_mouse_F {l : Launch} {G : Gc} {d kp as un to sc fd tp sh : Row} {sp : Nat → Option Nat} {L a b : Nat} {t v : Int32} (hL : L ≤ 120) (ha : a ≤ L) {a1 b1 : Nat} {t1 v1 : Int32} {to1 : Row} (hq : c_mouse tp L a t v to = ((a1, b1, t1, v1), false, to1)) : CmX l yX2_mouse (ws_ yX2_mouse cX2_mouse 1 none) ({ frames := 9, cells := 0, slots := 0, locals := 196 }) (cF G) [.ref (G.ad 5 2)] (cct G (pg d kp as un to (rd sc L a b t v) fd tp sh) sp) (fun _ : Unit => .threw (G.ad 5 3)) (fun _ => cct G (pg d kp as un to1 (rd sc L a1 b1 t1 v1) fd tp sh) sp) := by
  refine CmX.start (by decide) (Nat.le_of_ble_eq_true rfl) ?_
  intro p e s m below meth c hf hE hX hC ls hl
  obtain ⟨hx, hb, hr, hml, hown, hts, hlocks⟩ := hf
  have hl : lv_has ls 1 [(0, .ref (G.ad 5 2))] := hl
  have hown : s.vm.findClass "OwlEars$Reader" = some m.cls := hown
  unfold c_mouse at hq
  rcases e2 : c_beh tp L 0 35 a t v with ⟨⟨a2, b2, t2, v2⟩, ok2, x2⟩
  cases ok2
  · rw [cb_f e2] at hq
    have h1 : a2 = a1 := congrArg (fun z => z.1.1) hq
    have h2 : b2 = b1 := congrArg (fun z => z.1.2.1) hq
    have h3 : t2 = t1 := congrArg (fun z => z.1.2.2.1) hq
    have h4 : v2 = v1 := congrArg (fun z => z.1.2.2.2) hq
    have h5 : to = to1 := congrArg (fun z => z.2.2) hq
    refine lv_aload_n hx hb dX2_mouse_0 rfl (lv_at hl 0 rfl) ?_
    refine fg_get (C := RX2) (T := TX2) (N := 8) (ci := 3) (g := 5) (i := 2) (v := .ref (G.ad 4 0)) hx hb hown hts hX hC in_X2 rfl (cin rfl) rfl 2 (by decide) q288 (fun _ h => h) rfl dX2_mouse_1 ?_
    refine fg_getN (C := RX4) (T := TX4) (N := 9) (ci := 0) (g := 4) (i := 0) (v := .ref (G.ad 4 3)) hx hb hown hts hX hC in_X4 rfl (cin rfl) rfl 2 (by decide) (hX.2.2.1.F q245) (fun _ h => h) rfl dX2_mouse_4 ?_
    refine lv_iconst (v := 0) hx hb dX2_mouse_7 rfl ?_
    refine lv_aload_n hx hb dX2_mouse_8 rfl (lv_at hl 0 rfl) ?_
    refine lv_iconst (v := 0) hx hb dX2_mouse_9 rfl ?_
    refine lv_bipush (v := 35) hx hb dX2_mouse_10 rfl ?_
    refine fc_VT (As := [.int 0, .int 35]) (rest := [.int 0, .ref (G.ad 4 3)]) hx hb hml hown hts hX hC (m_X2_behind_F (sc := sc) (L := L) (a := a) (b := b) (t := t) (v := v) hL ha 0 35 x2 e2) (lw_V q1151 q1153 qs44 q113 q1154) hdV_X2_behind ⟨rfl, rfl⟩ ⟨Nat.le_of_ble_eq_true rfl, Nat.le_of_ble_eq_true rfl⟩ (fx_recv (g := 5) (i := 2) (ci := 3) (q := (RX2, TX2, 8)) hX hC (cin rfl) rfl rfl) hl.1 rfl (Nat.le_of_ble_eq_true rfl) ⟨Nat.zero_le _, Nat.zero_le _⟩ dX2_mouse_12 (fun _ H locs hC => ?_)
    exact fx_out hlocks hX hC hE rfl () rfl (by rw [h1, h2, h3, h4, h5])
  · rw [cb_t e2] at hq
    have l2 := beh_L ha e2
    rcases e3 : c_head tp L (to 4) a2 b2 t2 v2 with ⟨⟨a3, b3, t3, v3⟩, ok3, x3⟩
    cases ok3
    · rw [cb_f e3] at hq
      have h1 : a3 = a1 := congrArg (fun z => z.1.1) hq
      have h2 : b3 = b1 := congrArg (fun z => z.1.2.1) hq
      have h3 : t3 = t1 := congrArg (fun z => z.1.2.2.1) hq
      have h4 : v3 = v1 := congrArg (fun z => z.1.2.2.2) hq
      have h5 : (upd (upd to 3 x2) 7 0) = to1 := congrArg (fun z => z.2.2) hq
      refine lv_aload_n hx hb dX2_mouse_0 rfl (lv_at hl 0 rfl) ?_
      refine fg_get (C := RX2) (T := TX2) (N := 8) (ci := 3) (g := 5) (i := 2) (v := .ref (G.ad 4 0)) hx hb hown hts hX hC in_X2 rfl (cin rfl) rfl 2 (by decide) q288 (fun _ h => h) rfl dX2_mouse_1 ?_
      refine fg_getN (C := RX4) (T := TX4) (N := 9) (ci := 0) (g := 4) (i := 0) (v := .ref (G.ad 4 3)) hx hb hown hts hX hC in_X4 rfl (cin rfl) rfl 2 (by decide) (hX.2.2.1.F q245) (fun _ h => h) rfl dX2_mouse_4 ?_
      refine lv_iconst (v := 0) hx hb dX2_mouse_7 rfl ?_
      refine lv_aload_n hx hb dX2_mouse_8 rfl (lv_at hl 0 rfl) ?_
      refine lv_iconst (v := 0) hx hb dX2_mouse_9 rfl ?_
      refine lv_bipush (v := 35) hx hb dX2_mouse_10 rfl ?_
      refine fc_V (As := [.int 0, .int 35]) (rest := [.int 0, .ref (G.ad 4 3)]) hx hb hml hown hts hX hC (m_X2_behind_T (sc := sc) (L := L) (a := a) (b := b) (t := t) (v := v) hL ha 0 35 x2 e2) (lw_V q1151 q1153 qs44 q113 q1154) hdV_X2_behind ⟨rfl, rfl⟩ ⟨Nat.le_of_ble_eq_true rfl, Nat.le_of_ble_eq_true rfl⟩ (fx_recv (g := 5) (i := 2) (ci := 3) (q := (RX2, TX2, 8)) hX hC (cin rfl) rfl rfl) hl.1 rfl (Nat.le_of_ble_eq_true rfl) ⟨Nat.zero_le _, Nat.zero_le _⟩ dX2_mouse_12 (fun _ H locs hC => ?_)
      refine W.eq (g2 := F0 m 15 ls [.int x2, .int 0, .ref (G.ad 4 3)]) rfl ?_
      refine fg_iast (g := 4) (i := 3) (t0 := 0) hx hb hX hC (cin rfl) rfl rfl (vin_b rfl) (cct G (pg d kp as un (upd to 3 x2) (rd sc L a2 b2 t2 v2) fd tp sh) sp) (cs4_mouse (k := 0) (by decide)) dX2_mouse_15 (fun H locs hC => ?_)
      refine lv_aload_n hx hb dX2_mouse_16 rfl (lv_at hl 0 rfl) ?_
      refine fg_get (C := RX2) (T := TX2) (N := 8) (ci := 3) (g := 5) (i := 2) (v := .ref (G.ad 4 0)) hx hb hown hts hX hC in_X2 rfl (cin rfl) rfl 2 (by decide) q288 (fun _ h => h) rfl dX2_mouse_17 ?_
      refine fg_getN (C := RX4) (T := TX4) (N := 9) (ci := 0) (g := 4) (i := 0) (v := .ref (G.ad 4 3)) hx hb hown hts hX hC in_X4 rfl (cin rfl) rfl 2 (by decide) (hX.2.2.1.F q245) (fun _ h => h) rfl dX2_mouse_20 ?_
      refine lv_iconst (v := 4) hx hb dX2_mouse_23 rfl ?_
      refine lv_iconst (v := 0) hx hb dX2_mouse_24 rfl ?_
      refine fg_iast (g := 4) (i := 3) (t0 := 0) hx hb hX hC (cin rfl) rfl rfl (vin_b rfl) (cct G (pg d kp as un (upd (upd to 3 x2) 7 0) (rd sc L a2 b2 t2 v2) fd tp sh) sp) (cs4_mouse (k := 4) (by decide)) dX2_mouse_25 (fun H locs hC => ?_)
      refine lv_aload_n hx hb dX2_mouse_26 rfl (lv_at hl 0 rfl) ?_
      refine fg_get (C := RX2) (T := TX2) (N := 8) (ci := 3) (g := 5) (i := 2) (v := .ref (G.ad 4 0)) hx hb hown hts hX hC in_X2 rfl (cin rfl) rfl 2 (by decide) q288 (fun _ h => h) rfl dX2_mouse_27 ?_
      refine fg_getN (C := RX4) (T := TX4) (N := 9) (ci := 0) (g := 4) (i := 0) (v := .ref (G.ad 4 3)) hx hb hown hts hX hC in_X4 rfl (cin rfl) rfl 2 (by decide) (hX.2.2.1.F q245) (fun _ h => h) rfl dX2_mouse_30 ?_
      refine lv_iconst (v := 1) hx hb dX2_mouse_33 rfl ?_
      refine lv_aload_n hx hb dX2_mouse_34 rfl (lv_at hl 0 rfl) ?_
      refine lv_aload_n hx hb dX2_mouse_35 rfl (lv_at hl 0 rfl) ?_
      refine fg_get (C := RX2) (T := TX2) (N := 8) (ci := 3) (g := 5) (i := 2) (v := .ref (G.ad 4 0)) hx hb hown hts hX hC in_X2 rfl (cin rfl) rfl 2 (by decide) q288 (fun _ h => h) rfl dX2_mouse_36 ?_
      refine fg_getN (C := RX4) (T := TX4) (N := 9) (ci := 0) (g := 4) (i := 0) (v := .ref (G.ad 4 3)) hx hb hown hts hX hC in_X4 rfl (cin rfl) rfl 2 (by decide) (hX.2.2.1.F q245) (fun _ h => h) rfl dX2_mouse_39 ?_
      refine lv_iconst (v := 1) hx hb dX2_mouse_42 rfl ?_
      refine fg_iald (g := 4) (i := 3) (t0 := 0) (v := to 4) hx hb hX hC (cin rfl) rfl rfl (vin_b rfl) rfl dX2_mouse_43 ?_
      refine fc_VT (As := [.int (to 4)]) (rest := [.int 1, .ref (G.ad 4 3)]) hx hb hml hown hts hX hC (m_X2_heading_F (sc := sc) (L := L) (a := a2) (b := b2) (t := t2) (v := v2) hL l2.1 (to 4) x3 e3) (lw_V q1159 q1161 qs46 q113 q1162) hdV_X2_heading ⟨rfl, rfl⟩ ⟨Nat.le_of_ble_eq_true rfl, Nat.le_of_ble_eq_true rfl⟩ (fx_recv (g := 5) (i := 2) (ci := 3) (q := (RX2, TX2, 8)) hX hC (cin rfl) rfl rfl) hl.1 rfl (Nat.le_of_ble_eq_true rfl) ⟨Nat.zero_le _, Nat.zero_le _⟩ dX2_mouse_44 (fun _ H locs hC => ?_)
      exact fx_out hlocks hX hC hE rfl () rfl (by rw [h1, h2, h3, h4, h5])
    · rw [cb_t e3] at hq
      have l3 := head_L l2.1 l2.2 e3
      by_cases hw4 : t3 = 2 ∧ v3 = 16
      · rcases e4 : c_beh tp L 1 9 a3 t3 v3 with ⟨⟨a4, b4, t4, v4⟩, ok4, x4⟩
        cases ok4
        · rw [cb_f (opt_f hw4 e4)] at hq
          have h1 : a4 = a1 := congrArg (fun z => z.1.1) hq
          have h2 : b4 = b1 := congrArg (fun z => z.1.2.1) hq
          have h3 : t4 = t1 := congrArg (fun z => z.1.2.2.1) hq
          have h4 : v4 = v1 := congrArg (fun z => z.1.2.2.2) hq
          have h5 : (upd (upd (upd to 3 x2) 7 0) 4 x3) = to1 := congrArg (fun z => z.2.2) hq
          refine lv_aload_n hx hb dX2_mouse_0 rfl (lv_at hl 0 rfl) ?_
          refine fg_get (C := RX2) (T := TX2) (N := 8) (ci := 3) (g := 5) (i := 2) (v := .ref (G.ad 4 0)) hx hb hown hts hX hC in_X2 rfl (cin rfl) rfl 2 (by decide) q288 (fun _ h => h) rfl dX2_mouse_1 ?_
          refine fg_getN (C := RX4) (T := TX4) (N := 9) (ci := 0) (g := 4) (i := 0) (v := .ref (G.ad 4 3)) hx hb hown hts hX hC in_X4 rfl (cin rfl) rfl 2 (by decide) (hX.2.2.1.F q245) (fun _ h => h) rfl dX2_mouse_4 ?_
          refine lv_iconst (v := 0) hx hb dX2_mouse_7 rfl ?_
          refine lv_aload_n hx hb dX2_mouse_8 rfl (lv_at hl 0 rfl) ?_
          refine lv_iconst (v := 0) hx hb dX2_mouse_9 rfl ?_
          refine lv_bipush (v := 35) hx hb dX2_mouse_10 rfl ?_
          refine fc_V (As := [.int 0, .int 35]) (rest := [.int 0, .ref (G.ad 4 3)]) hx hb hml hown hts hX hC (m_X2_behind_T (sc := sc) (L := L) (a := a) (b := b) (t := t) (v := v) hL ha 0 35 x2 e2) (lw_V q1151 q1153 qs44 q113 q1154) hdV_X2_behind ⟨rfl, rfl⟩ ⟨Nat.le_of_ble_eq_true rfl, Nat.le_of_ble_eq_true rfl⟩ (fx_recv (g := 5) (i := 2) (ci := 3) (q := (RX2, TX2, 8)) hX hC (cin rfl) rfl rfl) hl.1 rfl (Nat.le_of_ble_eq_true rfl) ⟨Nat.zero_le _, Nat.zero_le _⟩ dX2_mouse_12 (fun _ H locs hC => ?_)
          refine W.eq (g2 := F0 m 15 ls [.int x2, .int 0, .ref (G.ad 4 3)]) rfl ?_
          refine fg_iast (g := 4) (i := 3) (t0 := 0) hx hb hX hC (cin rfl) rfl rfl (vin_b rfl) (cct G (pg d kp as un (upd to 3 x2) (rd sc L a2 b2 t2 v2) fd tp sh) sp) (cs4_mouse (k := 0) (by decide)) dX2_mouse_15 (fun H locs hC => ?_)
          refine lv_aload_n hx hb dX2_mouse_16 rfl (lv_at hl 0 rfl) ?_
          refine fg_get (C := RX2) (T := TX2) (N := 8) (ci := 3) (g := 5) (i := 2) (v := .ref (G.ad 4 0)) hx hb hown hts hX hC in_X2 rfl (cin rfl) rfl 2 (by decide) q288 (fun _ h => h) rfl dX2_mouse_17 ?_
          refine fg_getN (C := RX4) (T := TX4) (N := 9) (ci := 0) (g := 4) (i := 0) (v := .ref (G.ad 4 3)) hx hb hown hts hX hC in_X4 rfl (cin rfl) rfl 2 (by decide) (hX.2.2.1.F q245) (fun _ h => h) rfl dX2_mouse_20 ?_
          refine lv_iconst (v := 4) hx hb dX2_mouse_23 rfl ?_
          refine lv_iconst (v := 0) hx hb dX2_mouse_24 rfl ?_
          refine fg_iast (g := 4) (i := 3) (t0 := 0) hx hb hX hC (cin rfl) rfl rfl (vin_b rfl) (cct G (pg d kp as un (upd (upd to 3 x2) 7 0) (rd sc L a2 b2 t2 v2) fd tp sh) sp) (cs4_mouse (k := 4) (by decide)) dX2_mouse_25 (fun H locs hC => ?_)
          refine lv_aload_n hx hb dX2_mouse_26 rfl (lv_at hl 0 rfl) ?_
          refine fg_get (C := RX2) (T := TX2) (N := 8) (ci := 3) (g := 5) (i := 2) (v := .ref (G.ad 4 0)) hx hb hown hts hX hC in_X2 rfl (cin rfl) rfl 2 (by decide) q288 (fun _ h => h) rfl dX2_mouse_27 ?_
          refine fg_getN (C := RX4) (T := TX4) (N := 9) (ci := 0) (g := 4) (i := 0) (v := .ref (G.ad 4 3)) hx hb hown hts hX hC in_X4 rfl (cin rfl) rfl 2 (by decide) (hX.2.2.1.F q245) (fun _ h => h) rfl dX2_mouse_30 ?_
          refine lv_iconst (v := 1) hx hb dX2_mouse_33 rfl ?_
          refine lv_aload_n hx hb dX2_mouse_34 rfl (lv_at hl 0 rfl) ?_
          refine lv_aload_n hx hb dX2_mouse_35 rfl (lv_at hl 0 rfl) ?_
          refine fg_get (C := RX2) (T := TX2) (N := 8) (ci := 3) (g := 5) (i := 2) (v := .ref (G.ad 4 0)) hx hb hown hts hX hC in_X2 rfl (cin rfl) rfl 2 (by decide) q288 (fun _ h => h) rfl dX2_mouse_36 ?_
          refine fg_getN (C := RX4) (T := TX4) (N := 9) (ci := 0) (g := 4) (i := 0) (v := .ref (G.ad 4 3)) hx hb hown hts hX hC in_X4 rfl (cin rfl) rfl 2 (by decide) (hX.2.2.1.F q245) (fun _ h => h) rfl dX2_mouse_39 ?_
          refine lv_iconst (v := 1) hx hb dX2_mouse_42 rfl ?_
          refine fg_iald (g := 4) (i := 3) (t0 := 0) (v := to 4) hx hb hX hC (cin rfl) rfl rfl (vin_b rfl) rfl dX2_mouse_43 ?_
          refine fc_V (As := [.int (to 4)]) (rest := [.int 1, .ref (G.ad 4 3)]) hx hb hml hown hts hX hC (m_X2_heading_T (sc := sc) (L := L) (a := a2) (b := b2) (t := t2) (v := v2) hL l2.1 (to 4) x3 e3) (lw_V q1159 q1161 qs46 q113 q1162) hdV_X2_heading ⟨rfl, rfl⟩ ⟨Nat.le_of_ble_eq_true rfl, Nat.le_of_ble_eq_true rfl⟩ (fx_recv (g := 5) (i := 2) (ci := 3) (q := (RX2, TX2, 8)) hX hC (cin rfl) rfl rfl) hl.1 rfl (Nat.le_of_ble_eq_true rfl) ⟨Nat.zero_le _, Nat.zero_le _⟩ dX2_mouse_44 (fun _ H locs hC => ?_)
          refine W.eq (g2 := F0 m 47 ls [.int x3, .int 1, .ref (G.ad 4 3)]) rfl ?_
          refine fg_iast (g := 4) (i := 3) (t0 := 0) hx hb hX hC (cin rfl) rfl rfl (vin_b rfl) (cct G (pg d kp as un (upd (upd (upd to 3 x2) 7 0) 4 x3) (rd sc L a3 b3 t3 v3) fd tp sh) sp) (cs4_mouse (k := 1) (by decide)) dX2_mouse_47 (fun H locs hC => ?_)
          refine lv_aload_n hx hb dX2_mouse_48 rfl (lv_at hl 0 rfl) ?_
          refine lv_bipush (v := 16) hx hb dX2_mouse_49 rfl ?_
          refine fc_V (As := [.int 16]) (rest := []) hx hb hml hown hts hX hC (m_X2_isWord (sc := sc) (L := L) (a := a3) (b := b3) (t := t3) (v := v3) hL 16) (lw_V q1163 q1165 qs47 q113 q1166) hdV_X2_isWord ⟨rfl, rfl⟩ ⟨Nat.le_of_ble_eq_true rfl, Nat.le_of_ble_eq_true rfl⟩ (fx_recv (g := 5) (i := 2) (ci := 3) (q := (RX2, TX2, 8)) hX hC (cin rfl) rfl rfl) hl.1 rfl (Nat.le_of_ble_eq_true rfl) ⟨Nat.zero_le _, Nat.zero_le _⟩ dX2_mouse_51 (fun _ H locs hC => ?_)
          refine W.eq (g2 := F0 m 54 ls [.int (b2i (t3 = 2 ∧ v3 = 16))]) rfl ?_
          refine fb_eq (tgt := 73) hx hb dX2_mouse_54 (by decide) (fun z_7 => absurd hw4 z_7) (fun _ => ?_)
          refine lv_aload_n hx hb dX2_mouse_57 rfl (lv_at hl 0 rfl) ?_
          refine fg_get (C := RX2) (T := TX2) (N := 8) (ci := 3) (g := 5) (i := 2) (v := .ref (G.ad 4 0)) hx hb hown hts hX hC in_X2 rfl (cin rfl) rfl 2 (by decide) q288 (fun _ h => h) rfl dX2_mouse_58 ?_
          refine fg_getN (C := RX4) (T := TX4) (N := 9) (ci := 0) (g := 4) (i := 0) (v := .ref (G.ad 4 3)) hx hb hown hts hX hC in_X4 rfl (cin rfl) rfl 2 (by decide) (hX.2.2.1.F q245) (fun _ h => h) rfl dX2_mouse_61 ?_
          refine lv_iconst (v := 2) hx hb dX2_mouse_64 rfl ?_
          refine lv_aload_n hx hb dX2_mouse_65 rfl (lv_at hl 0 rfl) ?_
          refine lv_iconst (v := 1) hx hb dX2_mouse_66 rfl ?_
          refine lv_bipush (v := 9) hx hb dX2_mouse_67 rfl ?_
          refine fc_VT (As := [.int 1, .int 9]) (rest := [.int 2, .ref (G.ad 4 3)]) hx hb hml hown hts hX hC (m_X2_behind_F (sc := sc) (L := L) (a := a3) (b := b3) (t := t3) (v := v3) hL l3.1 1 9 x4 e4) (lw_V q1151 q1153 qs44 q113 q1154) hdV_X2_behind ⟨rfl, rfl⟩ ⟨Nat.le_of_ble_eq_true rfl, Nat.le_of_ble_eq_true rfl⟩ (fx_recv (g := 5) (i := 2) (ci := 3) (q := (RX2, TX2, 8)) hX hC (cin rfl) rfl rfl) hl.1 rfl (Nat.le_of_ble_eq_true rfl) ⟨Nat.zero_le _, Nat.zero_le _⟩ dX2_mouse_69 (fun _ H locs hC => ?_)
          exact fx_out hlocks hX hC hE rfl () rfl (by rw [h1, h2, h3, h4, h5])
        · rw [cb_t (opt_t hw4 e4)] at hq
          have l4 := beh_L l3.1 e4
          by_cases hw5 : t4 = 2 ∧ v4 = 17
          · rcases e5 : c_beh tp L 0 9 a4 t4 v4 with ⟨⟨a5, b5, t5, v5⟩, ok5, x5⟩
            cases ok5
            · rw [opt_f hw5 e5] at hq
              have h1 : a5 = a1 := congrArg (fun z => z.1.1) hq
              have h2 : b5 = b1 := congrArg (fun z => z.1.2.1) hq
              have h3 : t5 = t1 := congrArg (fun z => z.1.2.2.1) hq
              have h4 : v5 = v1 := congrArg (fun z => z.1.2.2.2) hq
              have h5 : (upd (upd (upd (upd to 3 x2) 7 0) 4 x3) 5 x4) = to1 := congrArg (fun z => z.2.2) hq
              refine lv_aload_n hx hb dX2_mouse_0 rfl (lv_at hl 0 rfl) ?_
              refine fg_get (C := RX2) (T := TX2) (N := 8) (ci := 3) (g := 5) (i := 2) (v := .ref (G.ad 4 0)) hx hb hown hts hX hC in_X2 rfl (cin rfl) rfl 2 (by decide) q288 (fun _ h => h) rfl dX2_mouse_1 ?_
              refine fg_getN (C := RX4) (T := TX4) (N := 9) (ci := 0) (g := 4) (i := 0) (v := .ref (G.ad 4 3)) hx hb hown hts hX hC in_X4 rfl (cin rfl) rfl 2 (by decide) (hX.2.2.1.F q245) (fun _ h => h) rfl dX2_mouse_4 ?_
              refine lv_iconst (v := 0) hx hb dX2_mouse_7 rfl ?_
              refine lv_aload_n hx hb dX2_mouse_8 rfl (lv_at hl 0 rfl) ?_
              refine lv_iconst (v := 0) hx hb dX2_mouse_9 rfl ?_
              refine lv_bipush (v := 35) hx hb dX2_mouse_10 rfl ?_
              refine fc_V (As := [.int 0, .int 35]) (rest := [.int 0, .ref (G.ad 4 3)]) hx hb hml hown hts hX hC (m_X2_behind_T (sc := sc) (L := L) (a := a) (b := b) (t := t) (v := v) hL ha 0 35 x2 e2) (lw_V q1151 q1153 qs44 q113 q1154) hdV_X2_behind ⟨rfl, rfl⟩ ⟨Nat.le_of_ble_eq_true rfl, Nat.le_of_ble_eq_true rfl⟩ (fx_recv (g := 5) (i := 2) (ci := 3) (q := (RX2, TX2, 8)) hX hC (cin rfl) rfl rfl) hl.1 rfl (Nat.le_of_ble_eq_true rfl) ⟨Nat.zero_le _, Nat.zero_le _⟩ dX2_mouse_12 (fun _ H locs hC => ?_)
              refine W.eq (g2 := F0 m 15 ls [.int x2, .int 0, .ref (G.ad 4 3)]) rfl ?_
              refine fg_iast (g := 4) (i := 3) (t0 := 0) hx hb hX hC (cin rfl) rfl rfl (vin_b rfl) (cct G (pg d kp as un (upd to 3 x2) (rd sc L a2 b2 t2 v2) fd tp sh) sp) (cs4_mouse (k := 0) (by decide)) dX2_mouse_15 (fun H locs hC => ?_)
              refine lv_aload_n hx hb dX2_mouse_16 rfl (lv_at hl 0 rfl) ?_
              refine fg_get (C := RX2) (T := TX2) (N := 8) (ci := 3) (g := 5) (i := 2) (v := .ref (G.ad 4 0)) hx hb hown hts hX hC in_X2 rfl (cin rfl) rfl 2 (by decide) q288 (fun _ h => h) rfl dX2_mouse_17 ?_
              refine fg_getN (C := RX4) (T := TX4) (N := 9) (ci := 0) (g := 4) (i := 0) (v := .ref (G.ad 4 3)) hx hb hown hts hX hC in_X4 rfl (cin rfl) rfl 2 (by decide) (hX.2.2.1.F q245) (fun _ h => h) rfl dX2_mouse_20 ?_
              refine lv_iconst (v := 4) hx hb dX2_mouse_23 rfl ?_
              refine lv_iconst (v := 0) hx hb dX2_mouse_24 rfl ?_
              refine fg_iast (g := 4) (i := 3) (t0 := 0) hx hb hX hC (cin rfl) rfl rfl (vin_b rfl) (cct G (pg d kp as un (upd (upd to 3 x2) 7 0) (rd sc L a2 b2 t2 v2) fd tp sh) sp) (cs4_mouse (k := 4) (by decide)) dX2_mouse_25 (fun H locs hC => ?_)
              refine lv_aload_n hx hb dX2_mouse_26 rfl (lv_at hl 0 rfl) ?_
              refine fg_get (C := RX2) (T := TX2) (N := 8) (ci := 3) (g := 5) (i := 2) (v := .ref (G.ad 4 0)) hx hb hown hts hX hC in_X2 rfl (cin rfl) rfl 2 (by decide) q288 (fun _ h => h) rfl dX2_mouse_27 ?_
              refine fg_getN (C := RX4) (T := TX4) (N := 9) (ci := 0) (g := 4) (i := 0) (v := .ref (G.ad 4 3)) hx hb hown hts hX hC in_X4 rfl (cin rfl) rfl 2 (by decide) (hX.2.2.1.F q245) (fun _ h => h) rfl dX2_mouse_30 ?_
              refine lv_iconst (v := 1) hx hb dX2_mouse_33 rfl ?_
              refine lv_aload_n hx hb dX2_mouse_34 rfl (lv_at hl 0 rfl) ?_
              refine lv_aload_n hx hb dX2_mouse_35 rfl (lv_at hl 0 rfl) ?_
              refine fg_get (C := RX2) (T := TX2) (N := 8) (ci := 3) (g := 5) (i := 2) (v := .ref (G.ad 4 0)) hx hb hown hts hX hC in_X2 rfl (cin rfl) rfl 2 (by decide) q288 (fun _ h => h) rfl dX2_mouse_36 ?_
              refine fg_getN (C := RX4) (T := TX4) (N := 9) (ci := 0) (g := 4) (i := 0) (v := .ref (G.ad 4 3)) hx hb hown hts hX hC in_X4 rfl (cin rfl) rfl 2 (by decide) (hX.2.2.1.F q245) (fun _ h => h) rfl dX2_mouse_39 ?_
              refine lv_iconst (v := 1) hx hb dX2_mouse_42 rfl ?_
              refine fg_iald (g := 4) (i := 3) (t0 := 0) (v := to 4) hx hb hX hC (cin rfl) rfl rfl (vin_b rfl) rfl dX2_mouse_43 ?_
              refine fc_V (As := [.int (to 4)]) (rest := [.int 1, .ref (G.ad 4 3)]) hx hb hml hown hts hX hC (m_X2_heading_T (sc := sc) (L := L) (a := a2) (b := b2) (t := t2) (v := v2) hL l2.1 (to 4) x3 e3) (lw_V q1159 q1161 qs46 q113 q1162) hdV_X2_heading ⟨rfl, rfl⟩ ⟨Nat.le_of_ble_eq_true rfl, Nat.le_of_ble_eq_true rfl⟩ (fx_recv (g := 5) (i := 2) (ci := 3) (q := (RX2, TX2, 8)) hX hC (cin rfl) rfl rfl) hl.1 rfl (Nat.le_of_ble_eq_true rfl) ⟨Nat.zero_le _, Nat.zero_le _⟩ dX2_mouse_44 (fun _ H locs hC => ?_)
              refine W.eq (g2 := F0 m 47 ls [.int x3, .int 1, .ref (G.ad 4 3)]) rfl ?_
              refine fg_iast (g := 4) (i := 3) (t0 := 0) hx hb hX hC (cin rfl) rfl rfl (vin_b rfl) (cct G (pg d kp as un (upd (upd (upd to 3 x2) 7 0) 4 x3) (rd sc L a3 b3 t3 v3) fd tp sh) sp) (cs4_mouse (k := 1) (by decide)) dX2_mouse_47 (fun H locs hC => ?_)
              refine lv_aload_n hx hb dX2_mouse_48 rfl (lv_at hl 0 rfl) ?_
              refine lv_bipush (v := 16) hx hb dX2_mouse_49 rfl ?_
              refine fc_V (As := [.int 16]) (rest := []) hx hb hml hown hts hX hC (m_X2_isWord (sc := sc) (L := L) (a := a3) (b := b3) (t := t3) (v := v3) hL 16) (lw_V q1163 q1165 qs47 q113 q1166) hdV_X2_isWord ⟨rfl, rfl⟩ ⟨Nat.le_of_ble_eq_true rfl, Nat.le_of_ble_eq_true rfl⟩ (fx_recv (g := 5) (i := 2) (ci := 3) (q := (RX2, TX2, 8)) hX hC (cin rfl) rfl rfl) hl.1 rfl (Nat.le_of_ble_eq_true rfl) ⟨Nat.zero_le _, Nat.zero_le _⟩ dX2_mouse_51 (fun _ H locs hC => ?_)
              refine W.eq (g2 := F0 m 54 ls [.int (b2i (t3 = 2 ∧ v3 = 16))]) rfl ?_
              refine fb_eq (tgt := 73) hx hb dX2_mouse_54 (by decide) (fun z_12 => absurd hw4 z_12) (fun _ => ?_)
              refine lv_aload_n hx hb dX2_mouse_57 rfl (lv_at hl 0 rfl) ?_
              refine fg_get (C := RX2) (T := TX2) (N := 8) (ci := 3) (g := 5) (i := 2) (v := .ref (G.ad 4 0)) hx hb hown hts hX hC in_X2 rfl (cin rfl) rfl 2 (by decide) q288 (fun _ h => h) rfl dX2_mouse_58 ?_
              refine fg_getN (C := RX4) (T := TX4) (N := 9) (ci := 0) (g := 4) (i := 0) (v := .ref (G.ad 4 3)) hx hb hown hts hX hC in_X4 rfl (cin rfl) rfl 2 (by decide) (hX.2.2.1.F q245) (fun _ h => h) rfl dX2_mouse_61 ?_
              refine lv_iconst (v := 2) hx hb dX2_mouse_64 rfl ?_
              refine lv_aload_n hx hb dX2_mouse_65 rfl (lv_at hl 0 rfl) ?_
              refine lv_iconst (v := 1) hx hb dX2_mouse_66 rfl ?_
              refine lv_bipush (v := 9) hx hb dX2_mouse_67 rfl ?_
              refine fc_V (As := [.int 1, .int 9]) (rest := [.int 2, .ref (G.ad 4 3)]) hx hb hml hown hts hX hC (m_X2_behind_T (sc := sc) (L := L) (a := a3) (b := b3) (t := t3) (v := v3) hL l3.1 1 9 x4 e4) (lw_V q1151 q1153 qs44 q113 q1154) hdV_X2_behind ⟨rfl, rfl⟩ ⟨Nat.le_of_ble_eq_true rfl, Nat.le_of_ble_eq_true rfl⟩ (fx_recv (g := 5) (i := 2) (ci := 3) (q := (RX2, TX2, 8)) hX hC (cin rfl) rfl rfl) hl.1 rfl (Nat.le_of_ble_eq_true rfl) ⟨Nat.zero_le _, Nat.zero_le _⟩ dX2_mouse_69 (fun _ H locs hC => ?_)
              refine W.eq (g2 := F0 m 72 ls [.int x4, .int 2, .ref (G.ad 4 3)]) rfl ?_
              refine fg_iast (g := 4) (i := 3) (t0 := 0) hx hb hX hC (cin rfl) rfl rfl (vin_b rfl) (cct G (pg d kp as un (upd (upd (upd (upd to 3 x2) 7 0) 4 x3) 5 x4) (rd sc L a4 b4 t4 v4) fd tp sh) sp) (cs4_mouse (k := 2) (by decide)) dX2_mouse_72 (fun H locs hC => ?_)
              refine lv_aload_n hx hb dX2_mouse_73 rfl (lv_at hl 0 rfl) ?_
              refine lv_bipush (v := 17) hx hb dX2_mouse_74 rfl ?_
              refine fc_V (As := [.int 17]) (rest := []) hx hb hml hown hts hX hC (m_X2_isWord (sc := sc) (L := L) (a := a4) (b := b4) (t := t4) (v := v4) hL 17) (lw_V q1163 q1165 qs47 q113 q1166) hdV_X2_isWord ⟨rfl, rfl⟩ ⟨Nat.le_of_ble_eq_true rfl, Nat.le_of_ble_eq_true rfl⟩ (fx_recv (g := 5) (i := 2) (ci := 3) (q := (RX2, TX2, 8)) hX hC (cin rfl) rfl rfl) hl.1 rfl (Nat.le_of_ble_eq_true rfl) ⟨Nat.zero_le _, Nat.zero_le _⟩ dX2_mouse_76 (fun _ H locs hC => ?_)
              refine W.eq (g2 := F0 m 79 ls [.int (b2i (t4 = 2 ∧ v4 = 17))]) rfl ?_
              refine fb_eq (tgt := 98) hx hb dX2_mouse_79 (by decide) (fun z_15 => absurd hw5 z_15) (fun _ => ?_)
              refine lv_aload_n hx hb dX2_mouse_82 rfl (lv_at hl 0 rfl) ?_
              refine fg_get (C := RX2) (T := TX2) (N := 8) (ci := 3) (g := 5) (i := 2) (v := .ref (G.ad 4 0)) hx hb hown hts hX hC in_X2 rfl (cin rfl) rfl 2 (by decide) q288 (fun _ h => h) rfl dX2_mouse_83 ?_
              refine fg_getN (C := RX4) (T := TX4) (N := 9) (ci := 0) (g := 4) (i := 0) (v := .ref (G.ad 4 3)) hx hb hown hts hX hC in_X4 rfl (cin rfl) rfl 2 (by decide) (hX.2.2.1.F q245) (fun _ h => h) rfl dX2_mouse_86 ?_
              refine lv_iconst (v := 3) hx hb dX2_mouse_89 rfl ?_
              refine lv_aload_n hx hb dX2_mouse_90 rfl (lv_at hl 0 rfl) ?_
              refine lv_iconst (v := 0) hx hb dX2_mouse_91 rfl ?_
              refine lv_bipush (v := 9) hx hb dX2_mouse_92 rfl ?_
              refine fc_VT (As := [.int 0, .int 9]) (rest := [.int 3, .ref (G.ad 4 3)]) hx hb hml hown hts hX hC (m_X2_behind_F (sc := sc) (L := L) (a := a4) (b := b4) (t := t4) (v := v4) hL l4.1 0 9 x5 e5) (lw_V q1151 q1153 qs44 q113 q1154) hdV_X2_behind ⟨rfl, rfl⟩ ⟨Nat.le_of_ble_eq_true rfl, Nat.le_of_ble_eq_true rfl⟩ (fx_recv (g := 5) (i := 2) (ci := 3) (q := (RX2, TX2, 8)) hX hC (cin rfl) rfl rfl) hl.1 rfl (Nat.le_of_ble_eq_true rfl) ⟨Nat.zero_le _, Nat.zero_le _⟩ dX2_mouse_94 (fun _ H locs hC => ?_)
              exact fx_out hlocks hX hC hE rfl () rfl (by rw [h1, h2, h3, h4, h5])
            · rw [opt_t hw5 e5] at hq
              have l5 := beh_L l4.1 e5
              exact absurd (show true = false from congrArg (fun z => z.2.1) hq) (by decide)
          · rw [opt_n hw5] at hq
            exact absurd (show true = false from congrArg (fun z => z.2.1) hq) (by decide)
      · rw [cb_t (opt_n hw4)] at hq
        by_cases hw5 : t3 = 2 ∧ v3 = 17
        · rcases e5 : c_beh tp L 0 9 a3 t3 v3 with ⟨⟨a5, b5, t5, v5⟩, ok5, x5⟩
          cases ok5
          · rw [opt_f hw5 e5] at hq
            have h1 : a5 = a1 := congrArg (fun z => z.1.1) hq
            have h2 : b5 = b1 := congrArg (fun z => z.1.2.1) hq
            have h3 : t5 = t1 := congrArg (fun z => z.1.2.2.1) hq
            have h4 : v5 = v1 := congrArg (fun z => z.1.2.2.2) hq
            have h5 : (upd (upd (upd to 3 x2) 7 0) 4 x3) = to1 := congrArg (fun z => z.2.2) hq
            refine lv_aload_n hx hb dX2_mouse_0 rfl (lv_at hl 0 rfl) ?_
            refine fg_get (C := RX2) (T := TX2) (N := 8) (ci := 3) (g := 5) (i := 2) (v := .ref (G.ad 4 0)) hx hb hown hts hX hC in_X2 rfl (cin rfl) rfl 2 (by decide) q288 (fun _ h => h) rfl dX2_mouse_1 ?_
            refine fg_getN (C := RX4) (T := TX4) (N := 9) (ci := 0) (g := 4) (i := 0) (v := .ref (G.ad 4 3)) hx hb hown hts hX hC in_X4 rfl (cin rfl) rfl 2 (by decide) (hX.2.2.1.F q245) (fun _ h => h) rfl dX2_mouse_4 ?_
            refine lv_iconst (v := 0) hx hb dX2_mouse_7 rfl ?_
            refine lv_aload_n hx hb dX2_mouse_8 rfl (lv_at hl 0 rfl) ?_
            refine lv_iconst (v := 0) hx hb dX2_mouse_9 rfl ?_
            refine lv_bipush (v := 35) hx hb dX2_mouse_10 rfl ?_
            refine fc_V (As := [.int 0, .int 35]) (rest := [.int 0, .ref (G.ad 4 3)]) hx hb hml hown hts hX hC (m_X2_behind_T (sc := sc) (L := L) (a := a) (b := b) (t := t) (v := v) hL ha 0 35 x2 e2) (lw_V q1151 q1153 qs44 q113 q1154) hdV_X2_behind ⟨rfl, rfl⟩ ⟨Nat.le_of_ble_eq_true rfl, Nat.le_of_ble_eq_true rfl⟩ (fx_recv (g := 5) (i := 2) (ci := 3) (q := (RX2, TX2, 8)) hX hC (cin rfl) rfl rfl) hl.1 rfl (Nat.le_of_ble_eq_true rfl) ⟨Nat.zero_le _, Nat.zero_le _⟩ dX2_mouse_12 (fun _ H locs hC => ?_)
            refine W.eq (g2 := F0 m 15 ls [.int x2, .int 0, .ref (G.ad 4 3)]) rfl ?_
            refine fg_iast (g := 4) (i := 3) (t0 := 0) hx hb hX hC (cin rfl) rfl rfl (vin_b rfl) (cct G (pg d kp as un (upd to 3 x2) (rd sc L a2 b2 t2 v2) fd tp sh) sp) (cs4_mouse (k := 0) (by decide)) dX2_mouse_15 (fun H locs hC => ?_)
            refine lv_aload_n hx hb dX2_mouse_16 rfl (lv_at hl 0 rfl) ?_
            refine fg_get (C := RX2) (T := TX2) (N := 8) (ci := 3) (g := 5) (i := 2) (v := .ref (G.ad 4 0)) hx hb hown hts hX hC in_X2 rfl (cin rfl) rfl 2 (by decide) q288 (fun _ h => h) rfl dX2_mouse_17 ?_
            refine fg_getN (C := RX4) (T := TX4) (N := 9) (ci := 0) (g := 4) (i := 0) (v := .ref (G.ad 4 3)) hx hb hown hts hX hC in_X4 rfl (cin rfl) rfl 2 (by decide) (hX.2.2.1.F q245) (fun _ h => h) rfl dX2_mouse_20 ?_
            refine lv_iconst (v := 4) hx hb dX2_mouse_23 rfl ?_
            refine lv_iconst (v := 0) hx hb dX2_mouse_24 rfl ?_
            refine fg_iast (g := 4) (i := 3) (t0 := 0) hx hb hX hC (cin rfl) rfl rfl (vin_b rfl) (cct G (pg d kp as un (upd (upd to 3 x2) 7 0) (rd sc L a2 b2 t2 v2) fd tp sh) sp) (cs4_mouse (k := 4) (by decide)) dX2_mouse_25 (fun H locs hC => ?_)
            refine lv_aload_n hx hb dX2_mouse_26 rfl (lv_at hl 0 rfl) ?_
            refine fg_get (C := RX2) (T := TX2) (N := 8) (ci := 3) (g := 5) (i := 2) (v := .ref (G.ad 4 0)) hx hb hown hts hX hC in_X2 rfl (cin rfl) rfl 2 (by decide) q288 (fun _ h => h) rfl dX2_mouse_27 ?_
            refine fg_getN (C := RX4) (T := TX4) (N := 9) (ci := 0) (g := 4) (i := 0) (v := .ref (G.ad 4 3)) hx hb hown hts hX hC in_X4 rfl (cin rfl) rfl 2 (by decide) (hX.2.2.1.F q245) (fun _ h => h) rfl dX2_mouse_30 ?_
            refine lv_iconst (v := 1) hx hb dX2_mouse_33 rfl ?_
            refine lv_aload_n hx hb dX2_mouse_34 rfl (lv_at hl 0 rfl) ?_
            refine lv_aload_n hx hb dX2_mouse_35 rfl (lv_at hl 0 rfl) ?_
            refine fg_get (C := RX2) (T := TX2) (N := 8) (ci := 3) (g := 5) (i := 2) (v := .ref (G.ad 4 0)) hx hb hown hts hX hC in_X2 rfl (cin rfl) rfl 2 (by decide) q288 (fun _ h => h) rfl dX2_mouse_36 ?_
            refine fg_getN (C := RX4) (T := TX4) (N := 9) (ci := 0) (g := 4) (i := 0) (v := .ref (G.ad 4 3)) hx hb hown hts hX hC in_X4 rfl (cin rfl) rfl 2 (by decide) (hX.2.2.1.F q245) (fun _ h => h) rfl dX2_mouse_39 ?_
            refine lv_iconst (v := 1) hx hb dX2_mouse_42 rfl ?_
            refine fg_iald (g := 4) (i := 3) (t0 := 0) (v := to 4) hx hb hX hC (cin rfl) rfl rfl (vin_b rfl) rfl dX2_mouse_43 ?_
            refine fc_V (As := [.int (to 4)]) (rest := [.int 1, .ref (G.ad 4 3)]) hx hb hml hown hts hX hC (m_X2_heading_T (sc := sc) (L := L) (a := a2) (b := b2) (t := t2) (v := v2) hL l2.1 (to 4) x3 e3) (lw_V q1159 q1161 qs46 q113 q1162) hdV_X2_heading ⟨rfl, rfl⟩ ⟨Nat.le_of_ble_eq_true rfl, Nat.le_of_ble_eq_true rfl⟩ (fx_recv (g := 5) (i := 2) (ci := 3) (q := (RX2, TX2, 8)) hX hC (cin rfl) rfl rfl) hl.1 rfl (Nat.le_of_ble_eq_true rfl) ⟨Nat.zero_le _, Nat.zero_le _⟩ dX2_mouse_44 (fun _ H locs hC => ?_)
            refine W.eq (g2 := F0 m 47 ls [.int x3, .int 1, .ref (G.ad 4 3)]) rfl ?_
            refine fg_iast (g := 4) (i := 3) (t0 := 0) hx hb hX hC (cin rfl) rfl rfl (vin_b rfl) (cct G (pg d kp as un (upd (upd (upd to 3 x2) 7 0) 4 x3) (rd sc L a3 b3 t3 v3) fd tp sh) sp) (cs4_mouse (k := 1) (by decide)) dX2_mouse_47 (fun H locs hC => ?_)
            refine lv_aload_n hx hb dX2_mouse_48 rfl (lv_at hl 0 rfl) ?_
            refine lv_bipush (v := 16) hx hb dX2_mouse_49 rfl ?_
            refine fc_V (As := [.int 16]) (rest := []) hx hb hml hown hts hX hC (m_X2_isWord (sc := sc) (L := L) (a := a3) (b := b3) (t := t3) (v := v3) hL 16) (lw_V q1163 q1165 qs47 q113 q1166) hdV_X2_isWord ⟨rfl, rfl⟩ ⟨Nat.le_of_ble_eq_true rfl, Nat.le_of_ble_eq_true rfl⟩ (fx_recv (g := 5) (i := 2) (ci := 3) (q := (RX2, TX2, 8)) hX hC (cin rfl) rfl rfl) hl.1 rfl (Nat.le_of_ble_eq_true rfl) ⟨Nat.zero_le _, Nat.zero_le _⟩ dX2_mouse_51 (fun _ H locs hC => ?_)
            refine W.eq (g2 := F0 m 54 ls [.int (b2i (t3 = 2 ∧ v3 = 16))]) rfl ?_
            refine fb_eq (tgt := 73) hx hb dX2_mouse_54 (by decide) (fun _ => ?_) (fun z_20 => absurd z_20 hw4)
            refine lv_aload_n hx hb dX2_mouse_73 rfl (lv_at hl 0 rfl) ?_
            refine lv_bipush (v := 17) hx hb dX2_mouse_74 rfl ?_
            refine fc_V (As := [.int 17]) (rest := []) hx hb hml hown hts hX hC (m_X2_isWord (sc := sc) (L := L) (a := a3) (b := b3) (t := t3) (v := v3) hL 17) (lw_V q1163 q1165 qs47 q113 q1166) hdV_X2_isWord ⟨rfl, rfl⟩ ⟨Nat.le_of_ble_eq_true rfl, Nat.le_of_ble_eq_true rfl⟩ (fx_recv (g := 5) (i := 2) (ci := 3) (q := (RX2, TX2, 8)) hX hC (cin rfl) rfl rfl) hl.1 rfl (Nat.le_of_ble_eq_true rfl) ⟨Nat.zero_le _, Nat.zero_le _⟩ dX2_mouse_76 (fun _ H locs hC => ?_)
            refine W.eq (g2 := F0 m 79 ls [.int (b2i (t3 = 2 ∧ v3 = 17))]) rfl ?_
            refine fb_eq (tgt := 98) hx hb dX2_mouse_79 (by decide) (fun z_22 => absurd hw5 z_22) (fun _ => ?_)
            refine lv_aload_n hx hb dX2_mouse_82 rfl (lv_at hl 0 rfl) ?_
            refine fg_get (C := RX2) (T := TX2) (N := 8) (ci := 3) (g := 5) (i := 2) (v := .ref (G.ad 4 0)) hx hb hown hts hX hC in_X2 rfl (cin rfl) rfl 2 (by decide) q288 (fun _ h => h) rfl dX2_mouse_83 ?_
            refine fg_getN (C := RX4) (T := TX4) (N := 9) (ci := 0) (g := 4) (i := 0) (v := .ref (G.ad 4 3)) hx hb hown hts hX hC in_X4 rfl (cin rfl) rfl 2 (by decide) (hX.2.2.1.F q245) (fun _ h => h) rfl dX2_mouse_86 ?_
            refine lv_iconst (v := 3) hx hb dX2_mouse_89 rfl ?_
            refine lv_aload_n hx hb dX2_mouse_90 rfl (lv_at hl 0 rfl) ?_
            refine lv_iconst (v := 0) hx hb dX2_mouse_91 rfl ?_
            refine lv_bipush (v := 9) hx hb dX2_mouse_92 rfl ?_
            refine fc_VT (As := [.int 0, .int 9]) (rest := [.int 3, .ref (G.ad 4 3)]) hx hb hml hown hts hX hC (m_X2_behind_F (sc := sc) (L := L) (a := a3) (b := b3) (t := t3) (v := v3) hL l3.1 0 9 x5 e5) (lw_V q1151 q1153 qs44 q113 q1154) hdV_X2_behind ⟨rfl, rfl⟩ ⟨Nat.le_of_ble_eq_true rfl, Nat.le_of_ble_eq_true rfl⟩ (fx_recv (g := 5) (i := 2) (ci := 3) (q := (RX2, TX2, 8)) hX hC (cin rfl) rfl rfl) hl.1 rfl (Nat.le_of_ble_eq_true rfl) ⟨Nat.zero_le _, Nat.zero_le _⟩ dX2_mouse_94 (fun _ H locs hC => ?_)
            exact fx_out hlocks hX hC hE rfl () rfl (by rw [h1, h2, h3, h4, h5])
          · rw [opt_t hw5 e5] at hq
            have l5 := beh_L l3.1 e5
            exact absurd (show true = false from congrArg (fun z => z.2.1) hq) (by decide)
        · rw [opt_n hw5] at hq
          exact absurd (show true = false from congrArg (fun z => z.2.1) hq) (by decide)
set_option maxRecDepth 100000 in
theorem m_X2_strike_T {l : Launch} {G : Gc} {d kp as un to sc fd tp sh : Row} {sp : Nat → Option Nat} {L a b : Nat} {t v : Int32} (hL : L ≤ 120) (ha : a ≤ L) {a1 b1 : Nat} {t1 v1 : Int32} {to1 : Row} (kind : Int32) (h0 : ¬ to 1 < 0) (hq : c_strike tp L kind a b t v to = ((a1, b1, t1, v1), true, to1)) : Cm l yX2_strike (ws_ yX2_strike cX2_strike 2 none) ({ frames := 9, cells := 0, slots := 0, locals := 196 }) (cF G) [.ref (G.ad 5 2), .int kind] (cct G (pg d kp as un to (rd sc L a b t v) fd tp sh) sp) (fun _ : Unit => none) (fun _ => cct G (pg d kp as un to1 (rd sc L a1 b1 t1 v1) fd tp sh) sp) := by
  refine Cm.start (by decide) (Nat.le_of_ble_eq_true rfl) ?_
  intro p e s m below meth c hf hX hC ls hl
  obtain ⟨hx, hb, hr, hml, hown, hts, hlocks⟩ := hf
  have hl : lv_has ls 2 [(0, .ref (G.ad 5 2)), (1, .int kind)] := hl
  have hown : s.vm.findClass "OwlEars$Reader" = some m.cls := hown
  unfold c_strike at hq
  by_cases h8 : to 1 < 8
  · rw [if_pos h8] at hq
    have hn8 : vp_in (to 1) 8 := in8 h0 h8
    rcases e2 : c_beh tp L 0 35 a t v with ⟨⟨a2, b2, t2, v2⟩, ok2, x2⟩
    cases ok2
    · rw [cb_f e2] at hq
      exact absurd (show false = true from congrArg (fun z => z.2.1) hq) (by decide)
    · rw [cb_t e2] at hq
      have l2 := beh_L ha e2
      by_cases hw3 : t2 = 2 ∧ v2 = 15
      · rcases e3 : c_beh tp L 0 9 a2 t2 v2 with ⟨⟨a3, b3, t3, v3⟩, ok3, x3⟩
        cases ok3
        · rw [opt_f hw3 e3] at hq
          exact absurd (show false = true from congrArg (fun z => z.2.1) hq) (by decide)
        · rw [opt_t hw3 e3] at hq
          have l3 := beh_L l2.1 e3
          have h1 : a3 = a1 := congrArg (fun z => z.1.1) hq
          have h2 : b3 = b1 := congrArg (fun z => z.1.2.1) hq
          have h3 : t3 = t1 := congrArg (fun z => z.1.2.2.1) hq
          have h4 : v3 = v1 := congrArg (fun z => z.1.2.2.2) hq
          have h5 : (upd (p_add to kind x2) (94 + 4 * ix (to 1)) x3) = to1 := congrArg (fun z => z.2.2) hq
          refine lv_aload_n hx hb dX2_strike_0 rfl (lv_at hl 0 rfl) ?_
          refine lv_aload_n hx hb dX2_strike_1 rfl (lv_at hl 0 rfl) ?_
          refine fg_get (C := RX2) (T := TX2) (N := 8) (ci := 3) (g := 5) (i := 2) (v := .ref (G.ad 4 0)) hx hb hown hts hX hC in_X2 rfl (cin rfl) rfl 2 (by decide) q288 (fun _ h => h) rfl dX2_strike_2 ?_
          refine fg_getN (C := RX4) (T := TX4) (N := 9) (ci := 0) (g := 4) (i := 0) (v := .int (to 1)) hx hb hown hts hX hC in_X4 rfl (cin rfl) rfl 4 (by decide) (hX.2.2.1.F q252) (fun _ h => h) rfl dX2_strike_5 ?_
          refine lv_bipush (v := 8) hx hb dX2_strike_8 rfl ?_
          refine fj_ge (tgt := 17) hx hb dX2_strike_10 (by decide) (fun z_1 => absurd h8 z_1) (fun _ => ?_)
          refine lv_iconst (v := 1) hx hb dX2_strike_13 rfl ?_
          refine lv_goto (tgt := 18) hx hb dX2_strike_14 (by decide) ?_
          refine fc_V (As := [.int 1]) (rest := []) hx hb hml hown hts hX hC (m_X2_need_1) (lw_V q1132 q1134 qs40 q113 q1135) hdV_X2_need ⟨rfl, rfl⟩ ⟨Nat.le_of_ble_eq_true rfl, Nat.le_of_ble_eq_true rfl⟩ (fx_recv (g := 5) (i := 2) (ci := 3) (q := (RX2, TX2, 8)) hX hC (cin rfl) rfl rfl) hl.1 rfl (Nat.le_of_ble_eq_true rfl) ⟨Nat.zero_le _, Nat.zero_le _⟩ dX2_strike_18 (fun _ H locs hC => ?_)
          refine W.eq (g2 := F0 m 21 ls []) rfl ?_
          refine lv_aload_n hx hb dX2_strike_21 rfl (lv_at hl 0 rfl) ?_
          refine fg_get (C := RX2) (T := TX2) (N := 8) (ci := 3) (g := 5) (i := 2) (v := .ref (G.ad 4 0)) hx hb hown hts hX hC in_X2 rfl (cin rfl) rfl 2 (by decide) q288 (fun _ h => h) rfl dX2_strike_22 ?_
          refine lv_iload_n hx hb dX2_strike_25 rfl (lv_at hl 1 rfl) ?_
          refine lv_aload_n hx hb dX2_strike_26 rfl (lv_at hl 0 rfl) ?_
          refine lv_iconst (v := 0) hx hb dX2_strike_27 rfl ?_
          refine lv_bipush (v := 35) hx hb dX2_strike_28 rfl ?_
          refine fc_V (As := [.int 0, .int 35]) (rest := [.int kind, .ref (G.ad 4 0)]) hx hb hml hown hts hX hC (m_X2_behind_T (sc := sc) (L := L) (a := a) (b := b) (t := t) (v := v) hL ha 0 35 x2 e2) (lw_V q1151 q1153 qs44 q113 q1154) hdV_X2_behind ⟨rfl, rfl⟩ ⟨Nat.le_of_ble_eq_true rfl, Nat.le_of_ble_eq_true rfl⟩ (fx_recv (g := 5) (i := 2) (ci := 3) (q := (RX2, TX2, 8)) hX hC (cin rfl) rfl rfl) hl.1 rfl (Nat.le_of_ble_eq_true rfl) ⟨Nat.zero_le _, Nat.zero_le _⟩ dX2_strike_30 (fun _ H locs hC => ?_)
          refine W.eq (g2 := F0 m 33 ls [.int x2, .int kind, .ref (G.ad 4 0)]) rfl ?_
          refine fc_V (As := [.int kind, .int x2]) (rest := []) hx hb hml hown hts hX hC (m_X4_add_4 kind x2 hn8) (lw_V q1179 q531 q532 q115 q533) hdV_X4_add ⟨rfl, rfl⟩ ⟨Nat.le_of_ble_eq_true rfl, Nat.le_of_ble_eq_true rfl⟩ (fx_recv (g := 4) (i := 0) (ci := 0) (q := (RX4, TX4, 9)) hX hC (cin rfl) rfl rfl) hl.1 rfl (Nat.le_of_ble_eq_true rfl) ⟨Nat.zero_le _, Nat.zero_le _⟩ dX2_strike_33 (fun _ H locs hC => ?_)
          refine W.eq (g2 := F0 m 36 ls []) rfl ?_
          refine lv_aload_n hx hb dX2_strike_36 rfl (lv_at hl 0 rfl) ?_
          refine lv_bipush (v := 15) hx hb dX2_strike_37 rfl ?_
          refine fc_V (As := [.int 15]) (rest := []) hx hb hml hown hts hX hC (m_X2_isWord (sc := sc) (L := L) (a := a2) (b := b2) (t := t2) (v := v2) hL 15) (lw_V q1163 q1165 qs47 q113 q1166) hdV_X2_isWord ⟨rfl, rfl⟩ ⟨Nat.le_of_ble_eq_true rfl, Nat.le_of_ble_eq_true rfl⟩ (fx_recv (g := 5) (i := 2) (ci := 3) (q := (RX2, TX2, 8)) hX hC (cin rfl) rfl rfl) hl.1 rfl (Nat.le_of_ble_eq_true rfl) ⟨Nat.zero_le _, Nat.zero_le _⟩ dX2_strike_39 (fun _ H locs hC => ?_)
          refine W.eq (g2 := F0 m 42 ls [.int (b2i (t2 = 2 ∧ v2 = 15))]) rfl ?_
          refine fb_eq (tgt := 71) hx hb dX2_strike_42 (by decide) (fun z_6 => absurd hw3 z_6) (fun _ => ?_)
          refine lv_aload_n hx hb dX2_strike_45 rfl (lv_at hl 0 rfl) ?_
          refine fg_get (C := RX2) (T := TX2) (N := 8) (ci := 3) (g := 5) (i := 2) (v := .ref (G.ad 4 0)) hx hb hown hts hX hC in_X2 rfl (cin rfl) rfl 2 (by decide) q288 (fun _ h => h) rfl dX2_strike_46 ?_
          refine fg_getN (C := RX4) (T := TX4) (N := 9) (ci := 0) (g := 4) (i := 0) (v := .ref (G.ad 4 5)) hx hb hown hts hX hC in_X4 rfl (cin rfl) rfl 5 (by decide) (hX.2.2.1.F q256) (fun _ h => h) rfl dX2_strike_49 ?_
          refine lv_iconst (v := 2) hx hb dX2_strike_52 rfl ?_
          refine fg_ald (g := 4) (i := 5) (t0 := 1) (ty := .array .int) (v := .ref (G.ad 4 8)) hx hb hX hC (cin rfl) rfl rfl rfl (vin_b rfl) rfl dX2_strike_53 ?_
          refine lv_aload_n hx hb dX2_strike_54 rfl (lv_at hl 0 rfl) ?_
          refine fg_get (C := RX2) (T := TX2) (N := 8) (ci := 3) (g := 5) (i := 2) (v := .ref (G.ad 4 0)) hx hb hown hts hX hC in_X2 rfl (cin rfl) rfl 2 (by decide) q288 (fun _ h => h) rfl dX2_strike_55 ?_
          refine fg_getN (C := RX4) (T := TX4) (N := 9) (ci := 0) (g := 4) (i := 0) (v := .int ((p_add to kind x2) 1)) hx hb hown hts hX hC in_X4 rfl (cin rfl) rfl 4 (by decide) (hX.2.2.1.F q252) (fun _ h => h) rfl dX2_strike_58 ?_
          refine lv_iconst (v := 1) hx hb dX2_strike_61 rfl ?_
          refine lv_isub hx hb dX2_strike_62 ?_
          refine W.eq (g2 := F0 m 63 ls [.int (to 1), .ref (G.ad 4 8)]) (congrArg (fun z => F0 m 63 ls (Value.int z :: [.ref (G.ad 4 8)])) add_m1) ?_
          refine lv_aload_n hx hb dX2_strike_63 rfl (lv_at hl 0 rfl) ?_
          refine lv_iconst (v := 0) hx hb dX2_strike_64 rfl ?_
          refine lv_bipush (v := 9) hx hb dX2_strike_65 rfl ?_
          refine fc_V (As := [.int 0, .int 9]) (rest := [.int (to 1), .ref (G.ad 4 8)]) hx hb hml hown hts hX hC (m_X2_behind_T (sc := sc) (L := L) (a := a2) (b := b2) (t := t2) (v := v2) hL l2.1 0 9 x3 e3) (lw_V q1151 q1153 qs44 q113 q1154) hdV_X2_behind ⟨rfl, rfl⟩ ⟨Nat.le_of_ble_eq_true rfl, Nat.le_of_ble_eq_true rfl⟩ (fx_recv (g := 5) (i := 2) (ci := 3) (q := (RX2, TX2, 8)) hX hC (cin rfl) rfl rfl) hl.1 rfl (Nat.le_of_ble_eq_true rfl) ⟨Nat.zero_le _, Nat.zero_le _⟩ dX2_strike_67 (fun _ H locs hC => ?_)
          refine W.eq (g2 := F0 m 70 ls [.int x3, .int (to 1), .ref (G.ad 4 8)]) rfl ?_
          refine fg_iast (g := 4) (i := 8) (t0 := 0) hx hb hX hC (cin rfl) rfl rfl hn8 (cct G (pg d kp as un (upd (p_add to kind x2) (94 + 4 * (ix (to 1))) x3) (rd sc L a3 b3 t3 v3) fd tp sh) sp) (cs4_r2 (k := ix (to 1))) dX2_strike_70 (fun H locs hC => ?_)
          exact fr_v hx hb hr hlocks hX hC () rfl ((congrArg (fun z => cct G (pg d kp as un z (rd sc L a3 b3 t3 v3) fd tp sh) sp) (h5)).trans (congrArg (fun z => cct G (pg d kp as un to1 z fd tp sh) sp) (by rw [h1, h2, h3, h4]))) dX2_strike_71
      · rw [opt_n hw3] at hq
        have h1 : a2 = a1 := congrArg (fun z => z.1.1) hq
        have h2 : b2 = b1 := congrArg (fun z => z.1.2.1) hq
        have h3 : t2 = t1 := congrArg (fun z => z.1.2.2.1) hq
        have h4 : v2 = v1 := congrArg (fun z => z.1.2.2.2) hq
        have h5 : (p_add to kind x2) = to1 := congrArg (fun z => z.2.2) hq
        refine lv_aload_n hx hb dX2_strike_0 rfl (lv_at hl 0 rfl) ?_
        refine lv_aload_n hx hb dX2_strike_1 rfl (lv_at hl 0 rfl) ?_
        refine fg_get (C := RX2) (T := TX2) (N := 8) (ci := 3) (g := 5) (i := 2) (v := .ref (G.ad 4 0)) hx hb hown hts hX hC in_X2 rfl (cin rfl) rfl 2 (by decide) q288 (fun _ h => h) rfl dX2_strike_2 ?_
        refine fg_getN (C := RX4) (T := TX4) (N := 9) (ci := 0) (g := 4) (i := 0) (v := .int (to 1)) hx hb hown hts hX hC in_X4 rfl (cin rfl) rfl 4 (by decide) (hX.2.2.1.F q252) (fun _ h => h) rfl dX2_strike_5 ?_
        refine lv_bipush (v := 8) hx hb dX2_strike_8 rfl ?_
        refine fj_ge (tgt := 17) hx hb dX2_strike_10 (by decide) (fun z_8 => absurd h8 z_8) (fun _ => ?_)
        refine lv_iconst (v := 1) hx hb dX2_strike_13 rfl ?_
        refine lv_goto (tgt := 18) hx hb dX2_strike_14 (by decide) ?_
        refine fc_V (As := [.int 1]) (rest := []) hx hb hml hown hts hX hC (m_X2_need_1) (lw_V q1132 q1134 qs40 q113 q1135) hdV_X2_need ⟨rfl, rfl⟩ ⟨Nat.le_of_ble_eq_true rfl, Nat.le_of_ble_eq_true rfl⟩ (fx_recv (g := 5) (i := 2) (ci := 3) (q := (RX2, TX2, 8)) hX hC (cin rfl) rfl rfl) hl.1 rfl (Nat.le_of_ble_eq_true rfl) ⟨Nat.zero_le _, Nat.zero_le _⟩ dX2_strike_18 (fun _ H locs hC => ?_)
        refine W.eq (g2 := F0 m 21 ls []) rfl ?_
        refine lv_aload_n hx hb dX2_strike_21 rfl (lv_at hl 0 rfl) ?_
        refine fg_get (C := RX2) (T := TX2) (N := 8) (ci := 3) (g := 5) (i := 2) (v := .ref (G.ad 4 0)) hx hb hown hts hX hC in_X2 rfl (cin rfl) rfl 2 (by decide) q288 (fun _ h => h) rfl dX2_strike_22 ?_
        refine lv_iload_n hx hb dX2_strike_25 rfl (lv_at hl 1 rfl) ?_
        refine lv_aload_n hx hb dX2_strike_26 rfl (lv_at hl 0 rfl) ?_
        refine lv_iconst (v := 0) hx hb dX2_strike_27 rfl ?_
        refine lv_bipush (v := 35) hx hb dX2_strike_28 rfl ?_
        refine fc_V (As := [.int 0, .int 35]) (rest := [.int kind, .ref (G.ad 4 0)]) hx hb hml hown hts hX hC (m_X2_behind_T (sc := sc) (L := L) (a := a) (b := b) (t := t) (v := v) hL ha 0 35 x2 e2) (lw_V q1151 q1153 qs44 q113 q1154) hdV_X2_behind ⟨rfl, rfl⟩ ⟨Nat.le_of_ble_eq_true rfl, Nat.le_of_ble_eq_true rfl⟩ (fx_recv (g := 5) (i := 2) (ci := 3) (q := (RX2, TX2, 8)) hX hC (cin rfl) rfl rfl) hl.1 rfl (Nat.le_of_ble_eq_true rfl) ⟨Nat.zero_le _, Nat.zero_le _⟩ dX2_strike_30 (fun _ H locs hC => ?_)
        refine W.eq (g2 := F0 m 33 ls [.int x2, .int kind, .ref (G.ad 4 0)]) rfl ?_
        refine fc_V (As := [.int kind, .int x2]) (rest := []) hx hb hml hown hts hX hC (m_X4_add_4 kind x2 hn8) (lw_V q1179 q531 q532 q115 q533) hdV_X4_add ⟨rfl, rfl⟩ ⟨Nat.le_of_ble_eq_true rfl, Nat.le_of_ble_eq_true rfl⟩ (fx_recv (g := 4) (i := 0) (ci := 0) (q := (RX4, TX4, 9)) hX hC (cin rfl) rfl rfl) hl.1 rfl (Nat.le_of_ble_eq_true rfl) ⟨Nat.zero_le _, Nat.zero_le _⟩ dX2_strike_33 (fun _ H locs hC => ?_)
        refine W.eq (g2 := F0 m 36 ls []) rfl ?_
        refine lv_aload_n hx hb dX2_strike_36 rfl (lv_at hl 0 rfl) ?_
        refine lv_bipush (v := 15) hx hb dX2_strike_37 rfl ?_
        refine fc_V (As := [.int 15]) (rest := []) hx hb hml hown hts hX hC (m_X2_isWord (sc := sc) (L := L) (a := a2) (b := b2) (t := t2) (v := v2) hL 15) (lw_V q1163 q1165 qs47 q113 q1166) hdV_X2_isWord ⟨rfl, rfl⟩ ⟨Nat.le_of_ble_eq_true rfl, Nat.le_of_ble_eq_true rfl⟩ (fx_recv (g := 5) (i := 2) (ci := 3) (q := (RX2, TX2, 8)) hX hC (cin rfl) rfl rfl) hl.1 rfl (Nat.le_of_ble_eq_true rfl) ⟨Nat.zero_le _, Nat.zero_le _⟩ dX2_strike_39 (fun _ H locs hC => ?_)
        refine W.eq (g2 := F0 m 42 ls [.int (b2i (t2 = 2 ∧ v2 = 15))]) rfl ?_
        refine fb_eq (tgt := 71) hx hb dX2_strike_42 (by decide) (fun _ => ?_) (fun z_13 => absurd z_13 hw3)
        exact fr_v hx hb hr hlocks hX hC () rfl ((congrArg (fun z => cct G (pg d kp as un z (rd sc L a2 b2 t2 v2) fd tp sh) sp) (h5)).trans (congrArg (fun z => cct G (pg d kp as un to1 z fd tp sh) sp) (by rw [h1, h2, h3, h4]))) dX2_strike_71
  · rw [if_neg h8] at hq
    exact absurd (show false = true from congrArg (fun z => z.2.1) hq) (by decide)
set_option maxRecDepth 100000 in
theorem m_X2_strike_F {l : Launch} {G : Gc} {d kp as un to sc fd tp sh : Row} {sp : Nat → Option Nat} {L a b : Nat} {t v : Int32} (hL : L ≤ 120) (ha : a ≤ L) {a1 b1 : Nat} {t1 v1 : Int32} {to1 : Row} (kind : Int32) (h0 : ¬ to 1 < 0) (hq : c_strike tp L kind a b t v to = ((a1, b1, t1, v1), false, to1)) : CmX l yX2_strike (ws_ yX2_strike cX2_strike 2 none) ({ frames := 9, cells := 0, slots := 0, locals := 196 }) (cF G) [.ref (G.ad 5 2), .int kind] (cct G (pg d kp as un to (rd sc L a b t v) fd tp sh) sp) (fun _ : Unit => .threw (G.ad 5 3)) (fun _ => cct G (pg d kp as un to1 (rd sc L a1 b1 t1 v1) fd tp sh) sp) := by
  refine CmX.start (by decide) (Nat.le_of_ble_eq_true rfl) ?_
  intro p e s m below meth c hf hE hX hC ls hl
  obtain ⟨hx, hb, hr, hml, hown, hts, hlocks⟩ := hf
  have hl : lv_has ls 2 [(0, .ref (G.ad 5 2)), (1, .int kind)] := hl
  have hown : s.vm.findClass "OwlEars$Reader" = some m.cls := hown
  unfold c_strike at hq
  by_cases h8 : to 1 < 8
  · rw [if_pos h8] at hq
    have hn8 : vp_in (to 1) 8 := in8 h0 h8
    rcases e2 : c_beh tp L 0 35 a t v with ⟨⟨a2, b2, t2, v2⟩, ok2, x2⟩
    cases ok2
    · rw [cb_f e2] at hq
      have h1 : a2 = a1 := congrArg (fun z => z.1.1) hq
      have h2 : b2 = b1 := congrArg (fun z => z.1.2.1) hq
      have h3 : t2 = t1 := congrArg (fun z => z.1.2.2.1) hq
      have h4 : v2 = v1 := congrArg (fun z => z.1.2.2.2) hq
      have h5 : to = to1 := congrArg (fun z => z.2.2) hq
      refine lv_aload_n hx hb dX2_strike_0 rfl (lv_at hl 0 rfl) ?_
      refine lv_aload_n hx hb dX2_strike_1 rfl (lv_at hl 0 rfl) ?_
      refine fg_get (C := RX2) (T := TX2) (N := 8) (ci := 3) (g := 5) (i := 2) (v := .ref (G.ad 4 0)) hx hb hown hts hX hC in_X2 rfl (cin rfl) rfl 2 (by decide) q288 (fun _ h => h) rfl dX2_strike_2 ?_
      refine fg_getN (C := RX4) (T := TX4) (N := 9) (ci := 0) (g := 4) (i := 0) (v := .int (to 1)) hx hb hown hts hX hC in_X4 rfl (cin rfl) rfl 4 (by decide) (hX.2.2.1.F q252) (fun _ h => h) rfl dX2_strike_5 ?_
      refine lv_bipush (v := 8) hx hb dX2_strike_8 rfl ?_
      refine fj_ge (tgt := 17) hx hb dX2_strike_10 (by decide) (fun z_1 => absurd h8 z_1) (fun _ => ?_)
      refine lv_iconst (v := 1) hx hb dX2_strike_13 rfl ?_
      refine lv_goto (tgt := 18) hx hb dX2_strike_14 (by decide) ?_
      refine fc_V (As := [.int 1]) (rest := []) hx hb hml hown hts hX hC (m_X2_need_1) (lw_V q1132 q1134 qs40 q113 q1135) hdV_X2_need ⟨rfl, rfl⟩ ⟨Nat.le_of_ble_eq_true rfl, Nat.le_of_ble_eq_true rfl⟩ (fx_recv (g := 5) (i := 2) (ci := 3) (q := (RX2, TX2, 8)) hX hC (cin rfl) rfl rfl) hl.1 rfl (Nat.le_of_ble_eq_true rfl) ⟨Nat.zero_le _, Nat.zero_le _⟩ dX2_strike_18 (fun _ H locs hC => ?_)
      refine W.eq (g2 := F0 m 21 ls []) rfl ?_
      refine lv_aload_n hx hb dX2_strike_21 rfl (lv_at hl 0 rfl) ?_
      refine fg_get (C := RX2) (T := TX2) (N := 8) (ci := 3) (g := 5) (i := 2) (v := .ref (G.ad 4 0)) hx hb hown hts hX hC in_X2 rfl (cin rfl) rfl 2 (by decide) q288 (fun _ h => h) rfl dX2_strike_22 ?_
      refine lv_iload_n hx hb dX2_strike_25 rfl (lv_at hl 1 rfl) ?_
      refine lv_aload_n hx hb dX2_strike_26 rfl (lv_at hl 0 rfl) ?_
      refine lv_iconst (v := 0) hx hb dX2_strike_27 rfl ?_
      refine lv_bipush (v := 35) hx hb dX2_strike_28 rfl ?_
      refine fc_VT (As := [.int 0, .int 35]) (rest := [.int kind, .ref (G.ad 4 0)]) hx hb hml hown hts hX hC (m_X2_behind_F (sc := sc) (L := L) (a := a) (b := b) (t := t) (v := v) hL ha 0 35 x2 e2) (lw_V q1151 q1153 qs44 q113 q1154) hdV_X2_behind ⟨rfl, rfl⟩ ⟨Nat.le_of_ble_eq_true rfl, Nat.le_of_ble_eq_true rfl⟩ (fx_recv (g := 5) (i := 2) (ci := 3) (q := (RX2, TX2, 8)) hX hC (cin rfl) rfl rfl) hl.1 rfl (Nat.le_of_ble_eq_true rfl) ⟨Nat.zero_le _, Nat.zero_le _⟩ dX2_strike_30 (fun _ H locs hC => ?_)
      exact fx_out hlocks hX hC hE rfl () rfl (by rw [h1, h2, h3, h4, h5])
    · rw [cb_t e2] at hq
      have l2 := beh_L ha e2
      by_cases hw3 : t2 = 2 ∧ v2 = 15
      · rcases e3 : c_beh tp L 0 9 a2 t2 v2 with ⟨⟨a3, b3, t3, v3⟩, ok3, x3⟩
        cases ok3
        · rw [opt_f hw3 e3] at hq
          have h1 : a3 = a1 := congrArg (fun z => z.1.1) hq
          have h2 : b3 = b1 := congrArg (fun z => z.1.2.1) hq
          have h3 : t3 = t1 := congrArg (fun z => z.1.2.2.1) hq
          have h4 : v3 = v1 := congrArg (fun z => z.1.2.2.2) hq
          have h5 : (p_add to kind x2) = to1 := congrArg (fun z => z.2.2) hq
          refine lv_aload_n hx hb dX2_strike_0 rfl (lv_at hl 0 rfl) ?_
          refine lv_aload_n hx hb dX2_strike_1 rfl (lv_at hl 0 rfl) ?_
          refine fg_get (C := RX2) (T := TX2) (N := 8) (ci := 3) (g := 5) (i := 2) (v := .ref (G.ad 4 0)) hx hb hown hts hX hC in_X2 rfl (cin rfl) rfl 2 (by decide) q288 (fun _ h => h) rfl dX2_strike_2 ?_
          refine fg_getN (C := RX4) (T := TX4) (N := 9) (ci := 0) (g := 4) (i := 0) (v := .int (to 1)) hx hb hown hts hX hC in_X4 rfl (cin rfl) rfl 4 (by decide) (hX.2.2.1.F q252) (fun _ h => h) rfl dX2_strike_5 ?_
          refine lv_bipush (v := 8) hx hb dX2_strike_8 rfl ?_
          refine fj_ge (tgt := 17) hx hb dX2_strike_10 (by decide) (fun z_4 => absurd h8 z_4) (fun _ => ?_)
          refine lv_iconst (v := 1) hx hb dX2_strike_13 rfl ?_
          refine lv_goto (tgt := 18) hx hb dX2_strike_14 (by decide) ?_
          refine fc_V (As := [.int 1]) (rest := []) hx hb hml hown hts hX hC (m_X2_need_1) (lw_V q1132 q1134 qs40 q113 q1135) hdV_X2_need ⟨rfl, rfl⟩ ⟨Nat.le_of_ble_eq_true rfl, Nat.le_of_ble_eq_true rfl⟩ (fx_recv (g := 5) (i := 2) (ci := 3) (q := (RX2, TX2, 8)) hX hC (cin rfl) rfl rfl) hl.1 rfl (Nat.le_of_ble_eq_true rfl) ⟨Nat.zero_le _, Nat.zero_le _⟩ dX2_strike_18 (fun _ H locs hC => ?_)
          refine W.eq (g2 := F0 m 21 ls []) rfl ?_
          refine lv_aload_n hx hb dX2_strike_21 rfl (lv_at hl 0 rfl) ?_
          refine fg_get (C := RX2) (T := TX2) (N := 8) (ci := 3) (g := 5) (i := 2) (v := .ref (G.ad 4 0)) hx hb hown hts hX hC in_X2 rfl (cin rfl) rfl 2 (by decide) q288 (fun _ h => h) rfl dX2_strike_22 ?_
          refine lv_iload_n hx hb dX2_strike_25 rfl (lv_at hl 1 rfl) ?_
          refine lv_aload_n hx hb dX2_strike_26 rfl (lv_at hl 0 rfl) ?_
          refine lv_iconst (v := 0) hx hb dX2_strike_27 rfl ?_
          refine lv_bipush (v := 35) hx hb dX2_strike_28 rfl ?_
          refine fc_V (As := [.int 0, .int 35]) (rest := [.int kind, .ref (G.ad 4 0)]) hx hb hml hown hts hX hC (m_X2_behind_T (sc := sc) (L := L) (a := a) (b := b) (t := t) (v := v) hL ha 0 35 x2 e2) (lw_V q1151 q1153 qs44 q113 q1154) hdV_X2_behind ⟨rfl, rfl⟩ ⟨Nat.le_of_ble_eq_true rfl, Nat.le_of_ble_eq_true rfl⟩ (fx_recv (g := 5) (i := 2) (ci := 3) (q := (RX2, TX2, 8)) hX hC (cin rfl) rfl rfl) hl.1 rfl (Nat.le_of_ble_eq_true rfl) ⟨Nat.zero_le _, Nat.zero_le _⟩ dX2_strike_30 (fun _ H locs hC => ?_)
          refine W.eq (g2 := F0 m 33 ls [.int x2, .int kind, .ref (G.ad 4 0)]) rfl ?_
          refine fc_V (As := [.int kind, .int x2]) (rest := []) hx hb hml hown hts hX hC (m_X4_add_4 kind x2 hn8) (lw_V q1179 q531 q532 q115 q533) hdV_X4_add ⟨rfl, rfl⟩ ⟨Nat.le_of_ble_eq_true rfl, Nat.le_of_ble_eq_true rfl⟩ (fx_recv (g := 4) (i := 0) (ci := 0) (q := (RX4, TX4, 9)) hX hC (cin rfl) rfl rfl) hl.1 rfl (Nat.le_of_ble_eq_true rfl) ⟨Nat.zero_le _, Nat.zero_le _⟩ dX2_strike_33 (fun _ H locs hC => ?_)
          refine W.eq (g2 := F0 m 36 ls []) rfl ?_
          refine lv_aload_n hx hb dX2_strike_36 rfl (lv_at hl 0 rfl) ?_
          refine lv_bipush (v := 15) hx hb dX2_strike_37 rfl ?_
          refine fc_V (As := [.int 15]) (rest := []) hx hb hml hown hts hX hC (m_X2_isWord (sc := sc) (L := L) (a := a2) (b := b2) (t := t2) (v := v2) hL 15) (lw_V q1163 q1165 qs47 q113 q1166) hdV_X2_isWord ⟨rfl, rfl⟩ ⟨Nat.le_of_ble_eq_true rfl, Nat.le_of_ble_eq_true rfl⟩ (fx_recv (g := 5) (i := 2) (ci := 3) (q := (RX2, TX2, 8)) hX hC (cin rfl) rfl rfl) hl.1 rfl (Nat.le_of_ble_eq_true rfl) ⟨Nat.zero_le _, Nat.zero_le _⟩ dX2_strike_39 (fun _ H locs hC => ?_)
          refine W.eq (g2 := F0 m 42 ls [.int (b2i (t2 = 2 ∧ v2 = 15))]) rfl ?_
          refine fb_eq (tgt := 71) hx hb dX2_strike_42 (by decide) (fun z_9 => absurd hw3 z_9) (fun _ => ?_)
          refine lv_aload_n hx hb dX2_strike_45 rfl (lv_at hl 0 rfl) ?_
          refine fg_get (C := RX2) (T := TX2) (N := 8) (ci := 3) (g := 5) (i := 2) (v := .ref (G.ad 4 0)) hx hb hown hts hX hC in_X2 rfl (cin rfl) rfl 2 (by decide) q288 (fun _ h => h) rfl dX2_strike_46 ?_
          refine fg_getN (C := RX4) (T := TX4) (N := 9) (ci := 0) (g := 4) (i := 0) (v := .ref (G.ad 4 5)) hx hb hown hts hX hC in_X4 rfl (cin rfl) rfl 5 (by decide) (hX.2.2.1.F q256) (fun _ h => h) rfl dX2_strike_49 ?_
          refine lv_iconst (v := 2) hx hb dX2_strike_52 rfl ?_
          refine fg_ald (g := 4) (i := 5) (t0 := 1) (ty := .array .int) (v := .ref (G.ad 4 8)) hx hb hX hC (cin rfl) rfl rfl rfl (vin_b rfl) rfl dX2_strike_53 ?_
          refine lv_aload_n hx hb dX2_strike_54 rfl (lv_at hl 0 rfl) ?_
          refine fg_get (C := RX2) (T := TX2) (N := 8) (ci := 3) (g := 5) (i := 2) (v := .ref (G.ad 4 0)) hx hb hown hts hX hC in_X2 rfl (cin rfl) rfl 2 (by decide) q288 (fun _ h => h) rfl dX2_strike_55 ?_
          refine fg_getN (C := RX4) (T := TX4) (N := 9) (ci := 0) (g := 4) (i := 0) (v := .int ((p_add to kind x2) 1)) hx hb hown hts hX hC in_X4 rfl (cin rfl) rfl 4 (by decide) (hX.2.2.1.F q252) (fun _ h => h) rfl dX2_strike_58 ?_
          refine lv_iconst (v := 1) hx hb dX2_strike_61 rfl ?_
          refine lv_isub hx hb dX2_strike_62 ?_
          refine W.eq (g2 := F0 m 63 ls [.int (to 1), .ref (G.ad 4 8)]) (congrArg (fun z => F0 m 63 ls (Value.int z :: [.ref (G.ad 4 8)])) add_m1) ?_
          refine lv_aload_n hx hb dX2_strike_63 rfl (lv_at hl 0 rfl) ?_
          refine lv_iconst (v := 0) hx hb dX2_strike_64 rfl ?_
          refine lv_bipush (v := 9) hx hb dX2_strike_65 rfl ?_
          refine fc_VT (As := [.int 0, .int 9]) (rest := [.int (to 1), .ref (G.ad 4 8)]) hx hb hml hown hts hX hC (m_X2_behind_F (sc := sc) (L := L) (a := a2) (b := b2) (t := t2) (v := v2) hL l2.1 0 9 x3 e3) (lw_V q1151 q1153 qs44 q113 q1154) hdV_X2_behind ⟨rfl, rfl⟩ ⟨Nat.le_of_ble_eq_true rfl, Nat.le_of_ble_eq_true rfl⟩ (fx_recv (g := 5) (i := 2) (ci := 3) (q := (RX2, TX2, 8)) hX hC (cin rfl) rfl rfl) hl.1 rfl (Nat.le_of_ble_eq_true rfl) ⟨Nat.zero_le _, Nat.zero_le _⟩ dX2_strike_67 (fun _ H locs hC => ?_)
          exact fx_out hlocks hX hC hE rfl () rfl (by rw [h1, h2, h3, h4, h5])
        · rw [opt_t hw3 e3] at hq
          have l3 := beh_L l2.1 e3
          exact absurd (show true = false from congrArg (fun z => z.2.1) hq) (by decide)
      · rw [opt_n hw3] at hq
        exact absurd (show true = false from congrArg (fun z => z.2.1) hq) (by decide)
  · rw [if_neg h8] at hq
    have h1 : a = a1 := congrArg (fun z => z.1.1) hq
    have h2 : b = b1 := congrArg (fun z => z.1.2.1) hq
    have h3 : t = t1 := congrArg (fun z => z.1.2.2.1) hq
    have h4 : v = v1 := congrArg (fun z => z.1.2.2.2) hq
    have h5 : to = to1 := congrArg (fun z => z.2.2) hq
    refine lv_aload_n hx hb dX2_strike_0 rfl (lv_at hl 0 rfl) ?_
    refine lv_aload_n hx hb dX2_strike_1 rfl (lv_at hl 0 rfl) ?_
    refine fg_get (C := RX2) (T := TX2) (N := 8) (ci := 3) (g := 5) (i := 2) (v := .ref (G.ad 4 0)) hx hb hown hts hX hC in_X2 rfl (cin rfl) rfl 2 (by decide) q288 (fun _ h => h) rfl dX2_strike_2 ?_
    refine fg_getN (C := RX4) (T := TX4) (N := 9) (ci := 0) (g := 4) (i := 0) (v := .int (to 1)) hx hb hown hts hX hC in_X4 rfl (cin rfl) rfl 4 (by decide) (hX.2.2.1.F q252) (fun _ h => h) rfl dX2_strike_5 ?_
    refine lv_bipush (v := 8) hx hb dX2_strike_8 rfl ?_
    refine fj_ge (tgt := 17) hx hb dX2_strike_10 (by decide) (fun _ => ?_) (fun z_11 => absurd z_11 h8)
    refine lv_iconst (v := 0) hx hb dX2_strike_17 rfl ?_
    refine fc_VT (As := [.int 0]) (rest := []) hx hb hml hown hts hX hC (m_X2_need_0) (lw_V q1132 q1134 qs40 q113 q1135) hdV_X2_need ⟨rfl, rfl⟩ ⟨Nat.le_of_ble_eq_true rfl, Nat.le_of_ble_eq_true rfl⟩ (fx_recv (g := 5) (i := 2) (ci := 3) (q := (RX2, TX2, 8)) hX hC (cin rfl) rfl rfl) hl.1 rfl (Nat.le_of_ble_eq_true rfl) ⟨Nat.zero_le _, Nat.zero_le _⟩ dX2_strike_18 (fun _ H locs hC => ?_)
    exact fx_out hlocks hX hC hE rfl () rfl (by rw [h1, h2, h3, h4, h5])
