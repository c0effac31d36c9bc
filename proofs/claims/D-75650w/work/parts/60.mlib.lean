/-! 59: literals as counts; the model's cells (printed by gen/mac.py) -/
set_option maxRecDepth 100000
theorem l2 : (2 : Int32) = nI 2 := Eq.trans rfl rfl
theorem l3 : (3 : Int32) = nI 3 := Eq.trans rfl rfl
theorem l4 : (4 : Int32) = nI 4 := Eq.trans rfl rfl
theorem l5 : (5 : Int32) = nI 5 := Eq.trans rfl rfl
theorem l6 : (6 : Int32) = nI 6 := Eq.trans rfl rfl
theorem l7 : (7 : Int32) = nI 7 := Eq.trans rfl rfl
theorem l8 : (8 : Int32) = nI 8 := Eq.trans rfl rfl
theorem l9 : (9 : Int32) = nI 9 := Eq.trans rfl rfl
theorem l10 : (10 : Int32) = nI 10 := Eq.trans rfl rfl
theorem l11 : (11 : Int32) = nI 11 := Eq.trans rfl rfl
theorem l12 : (12 : Int32) = nI 12 := Eq.trans rfl rfl
theorem l13 : (13 : Int32) = nI 13 := Eq.trans rfl rfl
theorem l14 : (14 : Int32) = nI 14 := Eq.trans rfl rfl
theorem l15 : (15 : Int32) = nI 15 := Eq.trans rfl rfl
theorem l16 : (16 : Int32) = nI 16 := Eq.trans rfl rfl
theorem l17 : (17 : Int32) = nI 17 := Eq.trans rfl rfl
theorem l18 : (18 : Int32) = nI 18 := Eq.trans rfl rfl
theorem l19 : (19 : Int32) = nI 19 := Eq.trans rfl rfl
theorem l20 : (20 : Int32) = nI 20 := Eq.trans rfl rfl
theorem l21 : (21 : Int32) = nI 21 := Eq.trans rfl rfl
theorem l22 : (22 : Int32) = nI 22 := Eq.trans rfl rfl
theorem l23 : (23 : Int32) = nI 23 := Eq.trans rfl rfl
theorem l24 : (24 : Int32) = nI 24 := Eq.trans rfl rfl
theorem l25 : (25 : Int32) = nI 25 := Eq.trans rfl rfl
theorem l26 : (26 : Int32) = nI 26 := Eq.trans rfl rfl
theorem l27 : (27 : Int32) = nI 27 := Eq.trans rfl rfl
theorem l28 : (28 : Int32) = nI 28 := Eq.trans rfl rfl
theorem l29 : (29 : Int32) = nI 29 := Eq.trans rfl rfl
theorem l30 : (30 : Int32) = nI 30 := Eq.trans rfl rfl
theorem l31 : (31 : Int32) = nI 31 := Eq.trans rfl rfl
theorem l32 : (32 : Int32) = nI 32 := Eq.trans rfl rfl
theorem l33 : (33 : Int32) = nI 33 := Eq.trans rfl rfl
theorem l34 : (34 : Int32) = nI 34 := Eq.trans rfl rfl
theorem l35 : (35 : Int32) = nI 35 := Eq.trans rfl rfl
theorem l36 : (36 : Int32) = nI 36 := Eq.trans rfl rfl
theorem l37 : (37 : Int32) = nI 37 := Eq.trans rfl rfl
theorem l40 : (40 : Int32) = nI 40 := Eq.trans rfl rfl
theorem l41 : (41 : Int32) = nI 41 := Eq.trans rfl rfl
theorem l42 : (42 : Int32) = nI 42 := Eq.trans rfl rfl
theorem l43 : (43 : Int32) = nI 43 := Eq.trans rfl rfl
theorem l45 : (45 : Int32) = nI 45 := Eq.trans rfl rfl
theorem l47 : (47 : Int32) = nI 47 := Eq.trans rfl rfl
theorem l48 : (48 : Int32) = nI 48 := Eq.trans rfl rfl
theorem l50 : (50 : Int32) = nI 50 := Eq.trans rfl rfl
theorem l57 : (57 : Int32) = nI 57 := Eq.trans rfl rfl
theorem l59 : (59 : Int32) = nI 59 := Eq.trans rfl rfl
theorem l60 : (60 : Int32) = nI 60 := Eq.trans rfl rfl
theorem l61 : (61 : Int32) = nI 61 := Eq.trans rfl rfl
theorem l62 : (62 : Int32) = nI 62 := Eq.trans rfl rfl
theorem l63 : (63 : Int32) = nI 63 := Eq.trans rfl rfl
theorem l85 : (85 : Int32) = nI 85 := Eq.trans rfl rfl
theorem l91 : (91 : Int32) = nI 91 := Eq.trans rfl rfl
theorem l93 : (93 : Int32) = nI 93 := Eq.trans rfl rfl
theorem l96 : (96 : Int32) = nI 96 := Eq.trans rfl rfl
theorem l97 : (97 : Int32) = nI 97 := Eq.trans rfl rfl
theorem l98 : (98 : Int32) = nI 98 := Eq.trans rfl rfl
theorem l99 : (99 : Int32) = nI 99 := Eq.trans rfl rfl
theorem l100 : (100 : Int32) = nI 100 := Eq.trans rfl rfl
theorem l120 : (120 : Int32) = nI 120 := Eq.trans rfl rfl
theorem l122 : (122 : Int32) = nI 122 := Eq.trans rfl rfl
theorem l146 : (146 : Int32) = nI 146 := Eq.trans rfl rfl
theorem l160 : (160 : Int32) = nI 160 := Eq.trans rfl rfl
theorem l165 : (165 : Int32) = nI 165 := Eq.trans rfl rfl
theorem l170 : (170 : Int32) = nI 170 := Eq.trans rfl rfl
theorem l178 : (178 : Int32) = nI 178 := Eq.trans rfl rfl
theorem l186 : (186 : Int32) = nI 186 := Eq.trans rfl rfl
theorem l198 : (198 : Int32) = nI 198 := Eq.trans rfl rfl
theorem l255 : (255 : Int32) = nI 255 := Eq.trans rfl rfl
theorem l400 : (400 : Int32) = nI 400 := Eq.trans rfl rfl
theorem l900 : (900 : Int32) = nI 900 := Eq.trans rfl rfl
theorem l948 : (948 : Int32) = nI 948 := Eq.trans rfl rfl
theorem l999 : (999 : Int32) = nI 999 := Eq.trans rfl rfl
theorem l1000 : (1000 : Int32) = nI 1000 := Eq.trans rfl rfl
theorem l2475 : (2475 : Int32) = nI 2475 := Eq.trans rfl rfl
theorem l2640 : (2640 : Int32) = nI 2640 := Eq.trans rfl rfl
theorem l2970 : (2970 : Int32) = nI 2970 := Eq.trans rfl rfl
theorem l3990 : (3990 : Int32) = nI 3990 := Eq.trans rfl rfl
theorem l9390 : (9390 : Int32) = nI 9390 := Eq.trans rfl rfl
theorem l18780 : (18780 : Int32) = nI 18780 := Eq.trans rfl rfl
theorem l19000 : (19000 : Int32) = nI 19000 := Eq.trans rfl rfl
theorem l999999 : (999999 : Int32) = nI 999999 := Eq.trans rfl rfl
theorem l1000000 : (1000000 : Int32) = nI 1000000 := Eq.trans rfl rfl
theorem l100000000 : (100000000 : Int32) = nI 100000000 := Eq.trans rfl rfl
theorem l2147483639 : (2147483639 : Int32) = nI 2147483639 := Eq.trans rfl rfl
theorem l0 : (0 : Int32) = nI 0 := Eq.trans rfl rfl
theorem l1 : (1 : Int32) = nI 1 := Eq.trans rfl rfl
theorem L0 : (0 : Int64) = lN 0 := Eq.trans rfl rfl
theorem L1 : (1 : Int64) = lN 1 := Eq.trans rfl rfl
theorem L10 : (10 : Int64) = lN 10 := Eq.trans rfl rfl
theorem L100 : (100 : Int64) = lN 100 := Eq.trans rfl rfl
theorem L1000 : (1000 : Int64) = lN 1000 := Eq.trans rfl rfl
theorem LM : (1000000000000 : Int64) = lN 1000000000000 := Eq.trans rfl rfl
def MT (T : Tt) : Prop := T.1 94 = 6 ∧ (T.1 95 = 100 ∧ T.2.1 95 = 7) ∧ (T.1 96 = 100 ∧ T.2.1 96 = 9390) ∧ (T.1 97 = 100 ∧ T.2.1 97 = 18780) ∧ (T.1 98 = 103 ∧ T.2.1 98 = 2) ∧ (T.1 99 = 100 ∧ T.2.1 99 = 2970) ∧ (T.1 100 = 100 ∧ T.2.1 100 = 16) ∧ (T.1 101 = 100 ∧ T.2.1 101 = 2640) ∧ (T.1 102 = 100 ∧ T.2.1 102 = 16) ∧ (T.1 103 = 100 ∧ T.2.1 103 = 400) ∧ (T.1 104 = 100 ∧ T.2.1 104 = 96) ∧ (T.1 105 = 100 ∧ T.2.1 105 = 400) ∧ (T.1 106 = 100 ∧ T.2.1 106 = 400) ∧ (T.1 107 = 100 ∧ T.2.1 107 = 400) ∧ (T.1 108 = 100 ∧ T.2.1 108 = 400) ∧ (T.1 109 = 101 ∧ T.2.1 109 = 7) ∧ (T.1 110 = 101 ∧ T.2.1 110 = 7) ∧ (T.1 111 = 101 ∧ T.2.1 111 = 3) ∧ (T.1 112 = 101 ∧ T.2.1 112 = 13) ∧ (T.1 113 = 101 ∧ T.2.1 113 = 13) ∧ (T.1 114 = 101 ∧ T.2.1 114 = 400) ∧ (T.1 115 = 100 ∧ T.2.1 115 = 20) ∧ (T.1 116 = 101 ∧ T.2.1 116 = 4) ∧ (T.1 117 = 100 ∧ T.2.1 117 = 120) ∧ (T.1 118 = 101 ∧ T.2.1 118 = 21) ∧ (T.1 119 = 100 ∧ T.2.1 119 = 160)
def MV (V : Vt) : Prop := V.2.2 94 2 = some 95 ∧ V.2.2 94 3 = some 96 ∧ V.2.2 94 4 = some 97 ∧ V.2.2 94 5 = some 98 ∧ V.2.2 94 6 = some 99 ∧ V.2.2 94 7 = some 100 ∧ V.2.2 94 9 = some 101 ∧ V.2.2 94 10 = some 102 ∧ V.2.2 94 12 = some 103 ∧ V.2.2 94 22 = some 104 ∧ V.2.2 94 24 = some 105 ∧ V.2.2 94 25 = some 106 ∧ V.2.2 94 27 = some 107 ∧ V.2.2 94 28 = some 108 ∧ V.2.2 94 31 = some 109 ∧ V.2.2 94 32 = some 110 ∧ V.2.2 94 33 = some 111 ∧ V.2.2 94 35 = some 112 ∧ V.2.2 94 36 = some 113 ∧ V.2.2 94 37 = some 114 ∧ V.2.2 94 41 = some 115 ∧ V.2.2 94 44 = some 116 ∧ V.2.2 94 45 = some 117 ∧ V.2.2 94 51 = some 118 ∧ V.2.2 94 53 = some 119
theorem MT0 {T : Tt} (h : MT T) : T.1 94 = 6 := h.1
theorem rq95 {T : Tt} (h : MT T) {n : Nat} (hn : n < 7) {β : Type} {k : Option β} : req (aIn T 95 0 (nI n)) k = k := rq (aIn_nI (h.2.1).1 (by rw [(h.2.1).2]; exact hn) (by omega))
theorem rf2 {V : Vt} (h : MV V) : V.2.2 94 2 = some 95 := h.1
theorem rq96 {T : Tt} (h : MT T) {n : Nat} (hn : n < 9390) {β : Type} {k : Option β} : req (aIn T 96 0 (nI n)) k = k := rq (aIn_nI (h.2.2.1).1 (by rw [(h.2.2.1).2]; exact hn) (by omega))
theorem rf3 {V : Vt} (h : MV V) : V.2.2 94 3 = some 96 := h.2.1
theorem rq97 {T : Tt} (h : MT T) {n : Nat} (hn : n < 18780) {β : Type} {k : Option β} : req (aIn T 97 0 (nI n)) k = k := rq (aIn_nI (h.2.2.2.1).1 (by rw [(h.2.2.2.1).2]; exact hn) (by omega))
theorem rf4 {V : Vt} (h : MV V) : V.2.2 94 4 = some 97 := h.2.2.1
theorem rq98 {T : Tt} (h : MT T) {n : Nat} (hn : n < 2) {β : Type} {k : Option β} : req (aIn T 98 3 (nI n)) k = k := rq (aIn_nI (h.2.2.2.2.1).1 (by rw [(h.2.2.2.2.1).2]; exact hn) (by omega))
theorem rf5 {V : Vt} (h : MV V) : V.2.2 94 5 = some 98 := h.2.2.2.1
theorem rq99 {T : Tt} (h : MT T) {n : Nat} (hn : n < 2970) {β : Type} {k : Option β} : req (aIn T 99 0 (nI n)) k = k := rq (aIn_nI (h.2.2.2.2.2.1).1 (by rw [(h.2.2.2.2.2.1).2]; exact hn) (by omega))
theorem rf6 {V : Vt} (h : MV V) : V.2.2 94 6 = some 99 := h.2.2.2.2.1
theorem rq100 {T : Tt} (h : MT T) {n : Nat} (hn : n < 16) {β : Type} {k : Option β} : req (aIn T 100 0 (nI n)) k = k := rq (aIn_nI (h.2.2.2.2.2.2.1).1 (by rw [(h.2.2.2.2.2.2.1).2]; exact hn) (by omega))
theorem rf7 {V : Vt} (h : MV V) : V.2.2 94 7 = some 100 := h.2.2.2.2.2.1
theorem rq101 {T : Tt} (h : MT T) {n : Nat} (hn : n < 2640) {β : Type} {k : Option β} : req (aIn T 101 0 (nI n)) k = k := rq (aIn_nI (h.2.2.2.2.2.2.2.1).1 (by rw [(h.2.2.2.2.2.2.2.1).2]; exact hn) (by omega))
theorem rf9 {V : Vt} (h : MV V) : V.2.2 94 9 = some 101 := h.2.2.2.2.2.2.1
theorem rq102 {T : Tt} (h : MT T) {n : Nat} (hn : n < 16) {β : Type} {k : Option β} : req (aIn T 102 0 (nI n)) k = k := rq (aIn_nI (h.2.2.2.2.2.2.2.2.1).1 (by rw [(h.2.2.2.2.2.2.2.2.1).2]; exact hn) (by omega))
theorem rf10 {V : Vt} (h : MV V) : V.2.2 94 10 = some 102 := h.2.2.2.2.2.2.2.1
theorem rq103 {T : Tt} (h : MT T) {n : Nat} (hn : n < 400) {β : Type} {k : Option β} : req (aIn T 103 0 (nI n)) k = k := rq (aIn_nI (h.2.2.2.2.2.2.2.2.2.1).1 (by rw [(h.2.2.2.2.2.2.2.2.2.1).2]; exact hn) (by omega))
theorem rf12 {V : Vt} (h : MV V) : V.2.2 94 12 = some 103 := h.2.2.2.2.2.2.2.2.1
theorem rq104 {T : Tt} (h : MT T) {n : Nat} (hn : n < 96) {β : Type} {k : Option β} : req (aIn T 104 0 (nI n)) k = k := rq (aIn_nI (h.2.2.2.2.2.2.2.2.2.2.1).1 (by rw [(h.2.2.2.2.2.2.2.2.2.2.1).2]; exact hn) (by omega))
theorem rf22 {V : Vt} (h : MV V) : V.2.2 94 22 = some 104 := h.2.2.2.2.2.2.2.2.2.1
theorem rq105 {T : Tt} (h : MT T) {n : Nat} (hn : n < 400) {β : Type} {k : Option β} : req (aIn T 105 0 (nI n)) k = k := rq (aIn_nI (h.2.2.2.2.2.2.2.2.2.2.2.1).1 (by rw [(h.2.2.2.2.2.2.2.2.2.2.2.1).2]; exact hn) (by omega))
theorem rf24 {V : Vt} (h : MV V) : V.2.2 94 24 = some 105 := h.2.2.2.2.2.2.2.2.2.2.1
theorem rq106 {T : Tt} (h : MT T) {n : Nat} (hn : n < 400) {β : Type} {k : Option β} : req (aIn T 106 0 (nI n)) k = k := rq (aIn_nI (h.2.2.2.2.2.2.2.2.2.2.2.2.1).1 (by rw [(h.2.2.2.2.2.2.2.2.2.2.2.2.1).2]; exact hn) (by omega))
theorem rf25 {V : Vt} (h : MV V) : V.2.2 94 25 = some 106 := h.2.2.2.2.2.2.2.2.2.2.2.1
theorem rq107 {T : Tt} (h : MT T) {n : Nat} (hn : n < 400) {β : Type} {k : Option β} : req (aIn T 107 0 (nI n)) k = k := rq (aIn_nI (h.2.2.2.2.2.2.2.2.2.2.2.2.2.1).1 (by rw [(h.2.2.2.2.2.2.2.2.2.2.2.2.2.1).2]; exact hn) (by omega))
theorem rf27 {V : Vt} (h : MV V) : V.2.2 94 27 = some 107 := h.2.2.2.2.2.2.2.2.2.2.2.2.1
theorem rq108 {T : Tt} (h : MT T) {n : Nat} (hn : n < 400) {β : Type} {k : Option β} : req (aIn T 108 0 (nI n)) k = k := rq (aIn_nI (h.2.2.2.2.2.2.2.2.2.2.2.2.2.2.1).1 (by rw [(h.2.2.2.2.2.2.2.2.2.2.2.2.2.2.1).2]; exact hn) (by omega))
theorem rf28 {V : Vt} (h : MV V) : V.2.2 94 28 = some 108 := h.2.2.2.2.2.2.2.2.2.2.2.2.2.1
theorem rq109 {T : Tt} (h : MT T) {n : Nat} (hn : n < 7) {β : Type} {k : Option β} : req (aIn T 109 1 (nI n)) k = k := rq (aIn_nI (h.2.2.2.2.2.2.2.2.2.2.2.2.2.2.2.1).1 (by rw [(h.2.2.2.2.2.2.2.2.2.2.2.2.2.2.2.1).2]; exact hn) (by omega))
theorem rf31 {V : Vt} (h : MV V) : V.2.2 94 31 = some 109 := h.2.2.2.2.2.2.2.2.2.2.2.2.2.2.1
theorem rq110 {T : Tt} (h : MT T) {n : Nat} (hn : n < 7) {β : Type} {k : Option β} : req (aIn T 110 1 (nI n)) k = k := rq (aIn_nI (h.2.2.2.2.2.2.2.2.2.2.2.2.2.2.2.2.1).1 (by rw [(h.2.2.2.2.2.2.2.2.2.2.2.2.2.2.2.2.1).2]; exact hn) (by omega))
theorem rf32 {V : Vt} (h : MV V) : V.2.2 94 32 = some 110 := h.2.2.2.2.2.2.2.2.2.2.2.2.2.2.2.1
theorem rq111 {T : Tt} (h : MT T) {n : Nat} (hn : n < 3) {β : Type} {k : Option β} : req (aIn T 111 1 (nI n)) k = k := rq (aIn_nI (h.2.2.2.2.2.2.2.2.2.2.2.2.2.2.2.2.2.1).1 (by rw [(h.2.2.2.2.2.2.2.2.2.2.2.2.2.2.2.2.2.1).2]; exact hn) (by omega))
theorem rf33 {V : Vt} (h : MV V) : V.2.2 94 33 = some 111 := h.2.2.2.2.2.2.2.2.2.2.2.2.2.2.2.2.1
theorem rq112 {T : Tt} (h : MT T) {n : Nat} (hn : n < 13) {β : Type} {k : Option β} : req (aIn T 112 1 (nI n)) k = k := rq (aIn_nI (h.2.2.2.2.2.2.2.2.2.2.2.2.2.2.2.2.2.2.1).1 (by rw [(h.2.2.2.2.2.2.2.2.2.2.2.2.2.2.2.2.2.2.1).2]; exact hn) (by omega))
theorem rf35 {V : Vt} (h : MV V) : V.2.2 94 35 = some 112 := h.2.2.2.2.2.2.2.2.2.2.2.2.2.2.2.2.2.1
theorem rq113 {T : Tt} (h : MT T) {n : Nat} (hn : n < 13) {β : Type} {k : Option β} : req (aIn T 113 1 (nI n)) k = k := rq (aIn_nI (h.2.2.2.2.2.2.2.2.2.2.2.2.2.2.2.2.2.2.2.1).1 (by rw [(h.2.2.2.2.2.2.2.2.2.2.2.2.2.2.2.2.2.2.2.1).2]; exact hn) (by omega))
theorem rf36 {V : Vt} (h : MV V) : V.2.2 94 36 = some 113 := h.2.2.2.2.2.2.2.2.2.2.2.2.2.2.2.2.2.2.1
theorem rq114 {T : Tt} (h : MT T) {n : Nat} (hn : n < 400) {β : Type} {k : Option β} : req (aIn T 114 1 (nI n)) k = k := rq (aIn_nI (h.2.2.2.2.2.2.2.2.2.2.2.2.2.2.2.2.2.2.2.2.1).1 (by rw [(h.2.2.2.2.2.2.2.2.2.2.2.2.2.2.2.2.2.2.2.2.1).2]; exact hn) (by omega))
theorem rf37 {V : Vt} (h : MV V) : V.2.2 94 37 = some 114 := h.2.2.2.2.2.2.2.2.2.2.2.2.2.2.2.2.2.2.2.1
theorem rq115 {T : Tt} (h : MT T) {n : Nat} (hn : n < 20) {β : Type} {k : Option β} : req (aIn T 115 0 (nI n)) k = k := rq (aIn_nI (h.2.2.2.2.2.2.2.2.2.2.2.2.2.2.2.2.2.2.2.2.2.1).1 (by rw [(h.2.2.2.2.2.2.2.2.2.2.2.2.2.2.2.2.2.2.2.2.2.1).2]; exact hn) (by omega))
theorem rf41 {V : Vt} (h : MV V) : V.2.2 94 41 = some 115 := h.2.2.2.2.2.2.2.2.2.2.2.2.2.2.2.2.2.2.2.2.1
theorem rq116 {T : Tt} (h : MT T) {n : Nat} (hn : n < 4) {β : Type} {k : Option β} : req (aIn T 116 1 (nI n)) k = k := rq (aIn_nI (h.2.2.2.2.2.2.2.2.2.2.2.2.2.2.2.2.2.2.2.2.2.2.1).1 (by rw [(h.2.2.2.2.2.2.2.2.2.2.2.2.2.2.2.2.2.2.2.2.2.2.1).2]; exact hn) (by omega))
theorem rf44 {V : Vt} (h : MV V) : V.2.2 94 44 = some 116 := h.2.2.2.2.2.2.2.2.2.2.2.2.2.2.2.2.2.2.2.2.2.1
theorem rq117 {T : Tt} (h : MT T) {n : Nat} (hn : n < 120) {β : Type} {k : Option β} : req (aIn T 117 0 (nI n)) k = k := rq (aIn_nI (h.2.2.2.2.2.2.2.2.2.2.2.2.2.2.2.2.2.2.2.2.2.2.2.1).1 (by rw [(h.2.2.2.2.2.2.2.2.2.2.2.2.2.2.2.2.2.2.2.2.2.2.2.1).2]; exact hn) (by omega))
theorem rf45 {V : Vt} (h : MV V) : V.2.2 94 45 = some 117 := h.2.2.2.2.2.2.2.2.2.2.2.2.2.2.2.2.2.2.2.2.2.2.1
theorem rq118 {T : Tt} (h : MT T) {n : Nat} (hn : n < 21) {β : Type} {k : Option β} : req (aIn T 118 1 (nI n)) k = k := rq (aIn_nI (h.2.2.2.2.2.2.2.2.2.2.2.2.2.2.2.2.2.2.2.2.2.2.2.2.1).1 (by rw [(h.2.2.2.2.2.2.2.2.2.2.2.2.2.2.2.2.2.2.2.2.2.2.2.2.1).2]; exact hn) (by omega))
theorem rf51 {V : Vt} (h : MV V) : V.2.2 94 51 = some 118 := h.2.2.2.2.2.2.2.2.2.2.2.2.2.2.2.2.2.2.2.2.2.2.2.1
theorem rq119 {T : Tt} (h : MT T) {n : Nat} (hn : n < 160) {β : Type} {k : Option β} : req (aIn T 119 0 (nI n)) k = k := rq (aIn_nI (h.2.2.2.2.2.2.2.2.2.2.2.2.2.2.2.2.2.2.2.2.2.2.2.2.2).1 (by rw [(h.2.2.2.2.2.2.2.2.2.2.2.2.2.2.2.2.2.2.2.2.2.2.2.2.2).2]; exact hn) (by omega))
theorem rf53 {V : Vt} (h : MV V) : V.2.2 94 53 = some 119 := h.2.2.2.2.2.2.2.2.2.2.2.2.2.2.2.2.2.2.2.2.2.2.2.2
theorem lq1 {α0 δ : Type} (F : Nat → α0 → Option δ) (P : Nat → α0 → Prop) (m : Nat) {R : δ → Prop} (hs : ∀ i n a0, i < m → P i a0 → (∀ b0, P (i + 1) b0 → Ret (F n b0) R) → Ret (F (n + 1) a0) R) (he : ∀ n a0, P m a0 → Ret (F (n + 1) a0) R) : ∀ N a0, m < N → P 0 a0 → Ret (F N a0) R := by
  have : ∀ j i N a0, i + j = m → j < N → P i a0 → Ret (F N a0) R := by
    intro j
    induction j with
    | zero =>
      intro i N a0 h1 h2 h3
      obtain ⟨N, rfl⟩ : ∃ n, N = n + 1 := ⟨N - 1, by omega⟩
      obtain rfl : i = m := by omega
      exact he N a0 h3
    | succ j ih =>
      intro i N a0 h1 h2 h3
      obtain ⟨N, rfl⟩ : ∃ n, N = n + 1 := ⟨N - 1, by omega⟩
      exact hs i N a0 (by omega) h3 fun b0 hb => ih (i + 1) N b0 (by omega) (by omega) hb
  intro N a0 h h0
  exact this m 0 N a0 (by omega) h h0
theorem lq2 {α0 α1 δ : Type} (F : Nat → α0 → α1 → Option δ) (P : Nat → α0 → α1 → Prop) (m : Nat) {R : δ → Prop} (hs : ∀ i n a0 a1, i < m → P i a0 a1 → (∀ b0 b1, P (i + 1) b0 b1 → Ret (F n b0 b1) R) → Ret (F (n + 1) a0 a1) R) (he : ∀ n a0 a1, P m a0 a1 → Ret (F (n + 1) a0 a1) R) : ∀ N a0 a1, m < N → P 0 a0 a1 → Ret (F N a0 a1) R := by
  have : ∀ j i N a0 a1, i + j = m → j < N → P i a0 a1 → Ret (F N a0 a1) R := by
    intro j
    induction j with
    | zero =>
      intro i N a0 a1 h1 h2 h3
      obtain ⟨N, rfl⟩ : ∃ n, N = n + 1 := ⟨N - 1, by omega⟩
      obtain rfl : i = m := by omega
      exact he N a0 a1 h3
    | succ j ih =>
      intro i N a0 a1 h1 h2 h3
      obtain ⟨N, rfl⟩ : ∃ n, N = n + 1 := ⟨N - 1, by omega⟩
      exact hs i N a0 a1 (by omega) h3 fun b0 b1 hb => ih (i + 1) N b0 b1 (by omega) (by omega) hb
  intro N a0 a1 h h0
  exact this m 0 N a0 a1 (by omega) h h0
theorem lq3 {α0 α1 α2 δ : Type} (F : Nat → α0 → α1 → α2 → Option δ) (P : Nat → α0 → α1 → α2 → Prop) (m : Nat) {R : δ → Prop} (hs : ∀ i n a0 a1 a2, i < m → P i a0 a1 a2 → (∀ b0 b1 b2, P (i + 1) b0 b1 b2 → Ret (F n b0 b1 b2) R) → Ret (F (n + 1) a0 a1 a2) R) (he : ∀ n a0 a1 a2, P m a0 a1 a2 → Ret (F (n + 1) a0 a1 a2) R) : ∀ N a0 a1 a2, m < N → P 0 a0 a1 a2 → Ret (F N a0 a1 a2) R := by
  have : ∀ j i N a0 a1 a2, i + j = m → j < N → P i a0 a1 a2 → Ret (F N a0 a1 a2) R := by
    intro j
    induction j with
    | zero =>
      intro i N a0 a1 a2 h1 h2 h3
      obtain ⟨N, rfl⟩ : ∃ n, N = n + 1 := ⟨N - 1, by omega⟩
      obtain rfl : i = m := by omega
      exact he N a0 a1 a2 h3
    | succ j ih =>
      intro i N a0 a1 a2 h1 h2 h3
      obtain ⟨N, rfl⟩ : ∃ n, N = n + 1 := ⟨N - 1, by omega⟩
      exact hs i N a0 a1 a2 (by omega) h3 fun b0 b1 b2 hb => ih (i + 1) N b0 b1 b2 (by omega) (by omega) hb
  intro N a0 a1 a2 h h0
  exact this m 0 N a0 a1 a2 (by omega) h h0
theorem lq4 {α0 α1 α2 α3 δ : Type} (F : Nat → α0 → α1 → α2 → α3 → Option δ) (P : Nat → α0 → α1 → α2 → α3 → Prop) (m : Nat) {R : δ → Prop} (hs : ∀ i n a0 a1 a2 a3, i < m → P i a0 a1 a2 a3 → (∀ b0 b1 b2 b3, P (i + 1) b0 b1 b2 b3 → Ret (F n b0 b1 b2 b3) R) → Ret (F (n + 1) a0 a1 a2 a3) R) (he : ∀ n a0 a1 a2 a3, P m a0 a1 a2 a3 → Ret (F (n + 1) a0 a1 a2 a3) R) : ∀ N a0 a1 a2 a3, m < N → P 0 a0 a1 a2 a3 → Ret (F N a0 a1 a2 a3) R := by
  have : ∀ j i N a0 a1 a2 a3, i + j = m → j < N → P i a0 a1 a2 a3 → Ret (F N a0 a1 a2 a3) R := by
    intro j
    induction j with
    | zero =>
      intro i N a0 a1 a2 a3 h1 h2 h3
      obtain ⟨N, rfl⟩ : ∃ n, N = n + 1 := ⟨N - 1, by omega⟩
      obtain rfl : i = m := by omega
      exact he N a0 a1 a2 a3 h3
    | succ j ih =>
      intro i N a0 a1 a2 a3 h1 h2 h3
      obtain ⟨N, rfl⟩ : ∃ n, N = n + 1 := ⟨N - 1, by omega⟩
      exact hs i N a0 a1 a2 a3 (by omega) h3 fun b0 b1 b2 b3 hb => ih (i + 1) N b0 b1 b2 b3 (by omega) (by omega) hb
  intro N a0 a1 a2 a3 h h0
  exact this m 0 N a0 a1 a2 a3 (by omega) h h0
theorem lq5 {α0 α1 α2 α3 α4 δ : Type} (F : Nat → α0 → α1 → α2 → α3 → α4 → Option δ) (P : Nat → α0 → α1 → α2 → α3 → α4 → Prop) (m : Nat) {R : δ → Prop} (hs : ∀ i n a0 a1 a2 a3 a4, i < m → P i a0 a1 a2 a3 a4 → (∀ b0 b1 b2 b3 b4, P (i + 1) b0 b1 b2 b3 b4 → Ret (F n b0 b1 b2 b3 b4) R) → Ret (F (n + 1) a0 a1 a2 a3 a4) R) (he : ∀ n a0 a1 a2 a3 a4, P m a0 a1 a2 a3 a4 → Ret (F (n + 1) a0 a1 a2 a3 a4) R) : ∀ N a0 a1 a2 a3 a4, m < N → P 0 a0 a1 a2 a3 a4 → Ret (F N a0 a1 a2 a3 a4) R := by
  have : ∀ j i N a0 a1 a2 a3 a4, i + j = m → j < N → P i a0 a1 a2 a3 a4 → Ret (F N a0 a1 a2 a3 a4) R := by
    intro j
    induction j with
    | zero =>
      intro i N a0 a1 a2 a3 a4 h1 h2 h3
      obtain ⟨N, rfl⟩ : ∃ n, N = n + 1 := ⟨N - 1, by omega⟩
      obtain rfl : i = m := by omega
      exact he N a0 a1 a2 a3 a4 h3
    | succ j ih =>
      intro i N a0 a1 a2 a3 a4 h1 h2 h3
      obtain ⟨N, rfl⟩ : ∃ n, N = n + 1 := ⟨N - 1, by omega⟩
      exact hs i N a0 a1 a2 a3 a4 (by omega) h3 fun b0 b1 b2 b3 b4 hb => ih (i + 1) N b0 b1 b2 b3 b4 (by omega) (by omega) hb
  intro N a0 a1 a2 a3 a4 h h0
  exact this m 0 N a0 a1 a2 a3 a4 (by omega) h h0
theorem lq6 {α0 α1 α2 α3 α4 α5 δ : Type} (F : Nat → α0 → α1 → α2 → α3 → α4 → α5 → Option δ) (P : Nat → α0 → α1 → α2 → α3 → α4 → α5 → Prop) (m : Nat) {R : δ → Prop} (hs : ∀ i n a0 a1 a2 a3 a4 a5, i < m → P i a0 a1 a2 a3 a4 a5 → (∀ b0 b1 b2 b3 b4 b5, P (i + 1) b0 b1 b2 b3 b4 b5 → Ret (F n b0 b1 b2 b3 b4 b5) R) → Ret (F (n + 1) a0 a1 a2 a3 a4 a5) R) (he : ∀ n a0 a1 a2 a3 a4 a5, P m a0 a1 a2 a3 a4 a5 → Ret (F (n + 1) a0 a1 a2 a3 a4 a5) R) : ∀ N a0 a1 a2 a3 a4 a5, m < N → P 0 a0 a1 a2 a3 a4 a5 → Ret (F N a0 a1 a2 a3 a4 a5) R := by
  have : ∀ j i N a0 a1 a2 a3 a4 a5, i + j = m → j < N → P i a0 a1 a2 a3 a4 a5 → Ret (F N a0 a1 a2 a3 a4 a5) R := by
    intro j
    induction j with
    | zero =>
      intro i N a0 a1 a2 a3 a4 a5 h1 h2 h3
      obtain ⟨N, rfl⟩ : ∃ n, N = n + 1 := ⟨N - 1, by omega⟩
      obtain rfl : i = m := by omega
      exact he N a0 a1 a2 a3 a4 a5 h3
    | succ j ih =>
      intro i N a0 a1 a2 a3 a4 a5 h1 h2 h3
      obtain ⟨N, rfl⟩ : ∃ n, N = n + 1 := ⟨N - 1, by omega⟩
      exact hs i N a0 a1 a2 a3 a4 a5 (by omega) h3 fun b0 b1 b2 b3 b4 b5 hb => ih (i + 1) N b0 b1 b2 b3 b4 b5 (by omega) (by omega) hb
  intro N a0 a1 a2 a3 a4 a5 h h0
  exact this m 0 N a0 a1 a2 a3 a4 a5 (by omega) h h0
/-- the component's cells that are made once -/
abbrev CT.B (T : Tt) : Prop := (T.1 0 = 1) ∧ (T.1 1 = 100) ∧ (T.2.1 1 = 7) ∧ (T.1 2 = 2) ∧ (T.1 3 = 3) ∧ (T.1 4 = 100) ∧ (T.2.1 4 = 160) ∧ (T.1 5 = 100) ∧ (T.2.1 5 = 8) ∧ (T.1 6 = 100) ∧ (T.2.1 6 = 8) ∧ (T.1 7 = 100) ∧ (T.2.1 7 = 12) ∧ (T.1 8 = 20) ∧ (T.1 10 = 20) ∧ (T.1 12 = 106) ∧ (T.2.1 12 = 2) ∧ (T.1 13 = 105) ∧ (T.2.1 13 = 16) ∧ (T.1 14 = 105) ∧ (T.2.1 14 = 16) ∧ (T.1 15 = 100) ∧ (T.2.1 15 = 16) ∧ (T.1 16 = 100) ∧ (T.2.1 16 = 16) ∧ (T.1 17 = 3) ∧ (T.1 18 = 100) ∧ (T.2.1 18 = 160) ∧ (T.1 19 = 3) ∧ (T.1 20 = 100) ∧ (T.2.1 20 = 160) ∧ (T.1 21 = 102) ∧ (T.2.1 21 = 400) ∧ (T.1 22 = 4) ∧ (T.1 23 = 5) ∧ (T.1 24 = 101) ∧ (T.2.1 24 = 28) ∧ (T.1 25 = 100) ∧ (T.2.1 25 = 20) ∧ (T.1 26 = 100) ∧ (T.2.1 26 = 8) ∧ (T.1 27 = 101) ∧ (T.2.1 27 = 21) ∧ (T.1 28 = 3) ∧ (T.1 29 = 100) ∧ (T.2.1 29 = 160) ∧ (∀ k, k < 16 → T.1 (30 + 4 * k) = 3 ∧ T.1 (31 + 4 * k) = 100 ∧ T.2.1 (31 + 4 * k) = 160) ∧ (∀ k, k < 16 → T.1 (32 + 4 * k) = 3 ∧ T.1 (33 + 4 * k) = 100 ∧ T.2.1 (33 + 4 * k) = 160)
def CT (T : Tt) : Prop := CT.B T
theorem CT.mk {T : Tt} (h__ : CT.B T) : CT T := h__
theorem CT.k0 {T : Tt} (h__ : CT T) : T.1 0 = 1 := h__.1
theorem CT.k1 {T : Tt} (h__ : CT T) : T.1 1 = 100 := h__.2.1
theorem CT.n1 {T : Tt} (h__ : CT T) : T.2.1 1 = 7 := h__.2.2.1
theorem CT.k2 {T : Tt} (h__ : CT T) : T.1 2 = 2 := h__.2.2.2.1
theorem CT.k3 {T : Tt} (h__ : CT T) : T.1 3 = 3 := h__.2.2.2.2.1
theorem CT.k4 {T : Tt} (h__ : CT T) : T.1 4 = 100 := h__.2.2.2.2.2.1
theorem CT.n4 {T : Tt} (h__ : CT T) : T.2.1 4 = 160 := h__.2.2.2.2.2.2.1
theorem CT.k5 {T : Tt} (h__ : CT T) : T.1 5 = 100 := h__.2.2.2.2.2.2.2.1
theorem CT.n5 {T : Tt} (h__ : CT T) : T.2.1 5 = 8 := h__.2.2.2.2.2.2.2.2.1
theorem CT.k6 {T : Tt} (h__ : CT T) : T.1 6 = 100 := h__.2.2.2.2.2.2.2.2.2.1
theorem CT.n6 {T : Tt} (h__ : CT T) : T.2.1 6 = 8 := h__.2.2.2.2.2.2.2.2.2.2.1
theorem CT.k7 {T : Tt} (h__ : CT T) : T.1 7 = 100 := h__.2.2.2.2.2.2.2.2.2.2.2.1
theorem CT.n7 {T : Tt} (h__ : CT T) : T.2.1 7 = 12 := h__.2.2.2.2.2.2.2.2.2.2.2.2.1
theorem CT.k8 {T : Tt} (h__ : CT T) : T.1 8 = 20 := h__.2.2.2.2.2.2.2.2.2.2.2.2.2.1
theorem CT.k10 {T : Tt} (h__ : CT T) : T.1 10 = 20 := h__.2.2.2.2.2.2.2.2.2.2.2.2.2.2.1
theorem CT.k12 {T : Tt} (h__ : CT T) : T.1 12 = 106 := h__.2.2.2.2.2.2.2.2.2.2.2.2.2.2.2.1
theorem CT.n12 {T : Tt} (h__ : CT T) : T.2.1 12 = 2 := h__.2.2.2.2.2.2.2.2.2.2.2.2.2.2.2.2.1
theorem CT.k13 {T : Tt} (h__ : CT T) : T.1 13 = 105 := h__.2.2.2.2.2.2.2.2.2.2.2.2.2.2.2.2.2.1
theorem CT.n13 {T : Tt} (h__ : CT T) : T.2.1 13 = 16 := h__.2.2.2.2.2.2.2.2.2.2.2.2.2.2.2.2.2.2.1
theorem CT.k14 {T : Tt} (h__ : CT T) : T.1 14 = 105 := h__.2.2.2.2.2.2.2.2.2.2.2.2.2.2.2.2.2.2.2.1
theorem CT.n14 {T : Tt} (h__ : CT T) : T.2.1 14 = 16 := h__.2.2.2.2.2.2.2.2.2.2.2.2.2.2.2.2.2.2.2.2.1
theorem CT.k15 {T : Tt} (h__ : CT T) : T.1 15 = 100 := h__.2.2.2.2.2.2.2.2.2.2.2.2.2.2.2.2.2.2.2.2.2.1
theorem CT.n15 {T : Tt} (h__ : CT T) : T.2.1 15 = 16 := h__.2.2.2.2.2.2.2.2.2.2.2.2.2.2.2.2.2.2.2.2.2.2.1
theorem CT.k16 {T : Tt} (h__ : CT T) : T.1 16 = 100 := h__.2.2.2.2.2.2.2.2.2.2.2.2.2.2.2.2.2.2.2.2.2.2.2.1
theorem CT.n16 {T : Tt} (h__ : CT T) : T.2.1 16 = 16 := h__.2.2.2.2.2.2.2.2.2.2.2.2.2.2.2.2.2.2.2.2.2.2.2.2.1
theorem CT.k17 {T : Tt} (h__ : CT T) : T.1 17 = 3 := h__.2.2.2.2.2.2.2.2.2.2.2.2.2.2.2.2.2.2.2.2.2.2.2.2.2.1
theorem CT.k18 {T : Tt} (h__ : CT T) : T.1 18 = 100 := h__.2.2.2.2.2.2.2.2.2.2.2.2.2.2.2.2.2.2.2.2.2.2.2.2.2.2.1
theorem CT.n18 {T : Tt} (h__ : CT T) : T.2.1 18 = 160 := h__.2.2.2.2.2.2.2.2.2.2.2.2.2.2.2.2.2.2.2.2.2.2.2.2.2.2.2.1
theorem CT.k19 {T : Tt} (h__ : CT T) : T.1 19 = 3 := h__.2.2.2.2.2.2.2.2.2.2.2.2.2.2.2.2.2.2.2.2.2.2.2.2.2.2.2.2.1
theorem CT.k20 {T : Tt} (h__ : CT T) : T.1 20 = 100 := h__.2.2.2.2.2.2.2.2.2.2.2.2.2.2.2.2.2.2.2.2.2.2.2.2.2.2.2.2.2.1
theorem CT.n20 {T : Tt} (h__ : CT T) : T.2.1 20 = 160 := h__.2.2.2.2.2.2.2.2.2.2.2.2.2.2.2.2.2.2.2.2.2.2.2.2.2.2.2.2.2.2.1
theorem CT.k21 {T : Tt} (h__ : CT T) : T.1 21 = 102 := h__.2.2.2.2.2.2.2.2.2.2.2.2.2.2.2.2.2.2.2.2.2.2.2.2.2.2.2.2.2.2.2.1
theorem CT.n21 {T : Tt} (h__ : CT T) : T.2.1 21 = 400 := h__.2.2.2.2.2.2.2.2.2.2.2.2.2.2.2.2.2.2.2.2.2.2.2.2.2.2.2.2.2.2.2.2.1
theorem CT.k22 {T : Tt} (h__ : CT T) : T.1 22 = 4 := h__.2.2.2.2.2.2.2.2.2.2.2.2.2.2.2.2.2.2.2.2.2.2.2.2.2.2.2.2.2.2.2.2.2.1
theorem CT.k23 {T : Tt} (h__ : CT T) : T.1 23 = 5 := h__.2.2.2.2.2.2.2.2.2.2.2.2.2.2.2.2.2.2.2.2.2.2.2.2.2.2.2.2.2.2.2.2.2.2.1
theorem CT.k24 {T : Tt} (h__ : CT T) : T.1 24 = 101 := h__.2.2.2.2.2.2.2.2.2.2.2.2.2.2.2.2.2.2.2.2.2.2.2.2.2.2.2.2.2.2.2.2.2.2.2.1
theorem CT.n24 {T : Tt} (h__ : CT T) : T.2.1 24 = 28 := h__.2.2.2.2.2.2.2.2.2.2.2.2.2.2.2.2.2.2.2.2.2.2.2.2.2.2.2.2.2.2.2.2.2.2.2.2.1
theorem CT.k25 {T : Tt} (h__ : CT T) : T.1 25 = 100 := h__.2.2.2.2.2.2.2.2.2.2.2.2.2.2.2.2.2.2.2.2.2.2.2.2.2.2.2.2.2.2.2.2.2.2.2.2.2.1
theorem CT.n25 {T : Tt} (h__ : CT T) : T.2.1 25 = 20 := h__.2.2.2.2.2.2.2.2.2.2.2.2.2.2.2.2.2.2.2.2.2.2.2.2.2.2.2.2.2.2.2.2.2.2.2.2.2.2.1
theorem CT.k26 {T : Tt} (h__ : CT T) : T.1 26 = 100 := h__.2.2.2.2.2.2.2.2.2.2.2.2.2.2.2.2.2.2.2.2.2.2.2.2.2.2.2.2.2.2.2.2.2.2.2.2.2.2.2.1
theorem CT.n26 {T : Tt} (h__ : CT T) : T.2.1 26 = 8 := h__.2.2.2.2.2.2.2.2.2.2.2.2.2.2.2.2.2.2.2.2.2.2.2.2.2.2.2.2.2.2.2.2.2.2.2.2.2.2.2.2.1
theorem CT.k27 {T : Tt} (h__ : CT T) : T.1 27 = 101 := h__.2.2.2.2.2.2.2.2.2.2.2.2.2.2.2.2.2.2.2.2.2.2.2.2.2.2.2.2.2.2.2.2.2.2.2.2.2.2.2.2.2.1
theorem CT.n27 {T : Tt} (h__ : CT T) : T.2.1 27 = 21 := h__.2.2.2.2.2.2.2.2.2.2.2.2.2.2.2.2.2.2.2.2.2.2.2.2.2.2.2.2.2.2.2.2.2.2.2.2.2.2.2.2.2.2.1
theorem CT.k28 {T : Tt} (h__ : CT T) : T.1 28 = 3 := h__.2.2.2.2.2.2.2.2.2.2.2.2.2.2.2.2.2.2.2.2.2.2.2.2.2.2.2.2.2.2.2.2.2.2.2.2.2.2.2.2.2.2.2.1
theorem CT.k29 {T : Tt} (h__ : CT T) : T.1 29 = 100 := h__.2.2.2.2.2.2.2.2.2.2.2.2.2.2.2.2.2.2.2.2.2.2.2.2.2.2.2.2.2.2.2.2.2.2.2.2.2.2.2.2.2.2.2.2.1
theorem CT.n29 {T : Tt} (h__ : CT T) : T.2.1 29 = 160 := h__.2.2.2.2.2.2.2.2.2.2.2.2.2.2.2.2.2.2.2.2.2.2.2.2.2.2.2.2.2.2.2.2.2.2.2.2.2.2.2.2.2.2.2.2.2.1
theorem CT.ku {T : Tt} (h__ : CT T) : ∀ k, k < 16 → T.1 (30 + 4 * k) = 3 ∧ T.1 (31 + 4 * k) = 100 ∧ T.2.1 (31 + 4 * k) = 160 := h__.2.2.2.2.2.2.2.2.2.2.2.2.2.2.2.2.2.2.2.2.2.2.2.2.2.2.2.2.2.2.2.2.2.2.2.2.2.2.2.2.2.2.2.2.2.2.1
theorem CT.ko {T : Tt} (h__ : CT T) : ∀ k, k < 16 → T.1 (32 + 4 * k) = 3 ∧ T.1 (33 + 4 * k) = 100 ∧ T.2.1 (33 + 4 * k) = 160 := h__.2.2.2.2.2.2.2.2.2.2.2.2.2.2.2.2.2.2.2.2.2.2.2.2.2.2.2.2.2.2.2.2.2.2.2.2.2.2.2.2.2.2.2.2.2.2.2
abbrev CV.B (V : Vt) : Prop := (V.2.2 0 1 = some 1) ∧ (V.2.2 0 2 = some 2) ∧ (V.2.2 0 3 = some 12) ∧ (V.2.2 0 4 = some 13) ∧ (V.2.2 0 5 = some 14) ∧ (V.2.2 0 6 = some 15) ∧ (V.2.2 0 7 = some 16) ∧ (V.2.2 0 8 = some 17) ∧ (V.2.2 0 9 = some 19) ∧ (V.2.2 0 10 = some 21) ∧ (V.2.2 0 16 = some 22) ∧ (V.2.2 0 17 = some 25) ∧ (V.2.2 0 18 = some 26) ∧ (V.2.2 0 22 = some 27) ∧ (V.2.2 0 23 = some 28) ∧ (V.2.2 2 0 = some 3) ∧ (V.2.2 2 1 = some 5) ∧ (V.2.2 2 2 = some 6) ∧ (V.2.2 2 3 = some 7) ∧ (V.2.2 2 4 = some 8) ∧ (V.2.2 2 5 = some 10) ∧ (V.2.2 3 0 = some 4) ∧ (V.2.2 17 0 = some 18) ∧ (V.2.2 19 0 = some 20) ∧ (V.2.2 28 0 = some 29) ∧ (V.2.2 22 0 = some 23) ∧ (V.2.2 22 1 = some 24) ∧ (∀ k, k < 16 → V.2.2 (30 + 4 * k) 0 = some (31 + 4 * k)) ∧ (∀ k, k < 16 → V.2.2 (32 + 4 * k) 0 = some (33 + 4 * k) ∧ V.2.2 14 k = some (32 + 4 * k))
def CV (V : Vt) : Prop := CV.B V
theorem CV.mk {V : Vt} (h__ : CV.B V) : CV V := h__
theorem CV.r0_1 {V : Vt} (h__ : CV V) : V.2.2 0 1 = some 1 := h__.1
theorem CV.r0_2 {V : Vt} (h__ : CV V) : V.2.2 0 2 = some 2 := h__.2.1
theorem CV.r0_3 {V : Vt} (h__ : CV V) : V.2.2 0 3 = some 12 := h__.2.2.1
theorem CV.r0_4 {V : Vt} (h__ : CV V) : V.2.2 0 4 = some 13 := h__.2.2.2.1
theorem CV.r0_5 {V : Vt} (h__ : CV V) : V.2.2 0 5 = some 14 := h__.2.2.2.2.1
theorem CV.r0_6 {V : Vt} (h__ : CV V) : V.2.2 0 6 = some 15 := h__.2.2.2.2.2.1
theorem CV.r0_7 {V : Vt} (h__ : CV V) : V.2.2 0 7 = some 16 := h__.2.2.2.2.2.2.1
theorem CV.r0_8 {V : Vt} (h__ : CV V) : V.2.2 0 8 = some 17 := h__.2.2.2.2.2.2.2.1
theorem CV.r0_9 {V : Vt} (h__ : CV V) : V.2.2 0 9 = some 19 := h__.2.2.2.2.2.2.2.2.1
theorem CV.r0_10 {V : Vt} (h__ : CV V) : V.2.2 0 10 = some 21 := h__.2.2.2.2.2.2.2.2.2.1
theorem CV.r0_16 {V : Vt} (h__ : CV V) : V.2.2 0 16 = some 22 := h__.2.2.2.2.2.2.2.2.2.2.1
theorem CV.r0_17 {V : Vt} (h__ : CV V) : V.2.2 0 17 = some 25 := h__.2.2.2.2.2.2.2.2.2.2.2.1
theorem CV.r0_18 {V : Vt} (h__ : CV V) : V.2.2 0 18 = some 26 := h__.2.2.2.2.2.2.2.2.2.2.2.2.1
theorem CV.r0_22 {V : Vt} (h__ : CV V) : V.2.2 0 22 = some 27 := h__.2.2.2.2.2.2.2.2.2.2.2.2.2.1
theorem CV.r0_23 {V : Vt} (h__ : CV V) : V.2.2 0 23 = some 28 := h__.2.2.2.2.2.2.2.2.2.2.2.2.2.2.1
theorem CV.r2_0 {V : Vt} (h__ : CV V) : V.2.2 2 0 = some 3 := h__.2.2.2.2.2.2.2.2.2.2.2.2.2.2.2.1
theorem CV.r2_1 {V : Vt} (h__ : CV V) : V.2.2 2 1 = some 5 := h__.2.2.2.2.2.2.2.2.2.2.2.2.2.2.2.2.1
theorem CV.r2_2 {V : Vt} (h__ : CV V) : V.2.2 2 2 = some 6 := h__.2.2.2.2.2.2.2.2.2.2.2.2.2.2.2.2.2.1
theorem CV.r2_3 {V : Vt} (h__ : CV V) : V.2.2 2 3 = some 7 := h__.2.2.2.2.2.2.2.2.2.2.2.2.2.2.2.2.2.2.1
theorem CV.r2_4 {V : Vt} (h__ : CV V) : V.2.2 2 4 = some 8 := h__.2.2.2.2.2.2.2.2.2.2.2.2.2.2.2.2.2.2.2.1
theorem CV.r2_5 {V : Vt} (h__ : CV V) : V.2.2 2 5 = some 10 := h__.2.2.2.2.2.2.2.2.2.2.2.2.2.2.2.2.2.2.2.2.1
theorem CV.r3_0 {V : Vt} (h__ : CV V) : V.2.2 3 0 = some 4 := h__.2.2.2.2.2.2.2.2.2.2.2.2.2.2.2.2.2.2.2.2.2.1
theorem CV.r17_0 {V : Vt} (h__ : CV V) : V.2.2 17 0 = some 18 := h__.2.2.2.2.2.2.2.2.2.2.2.2.2.2.2.2.2.2.2.2.2.2.1
theorem CV.r19_0 {V : Vt} (h__ : CV V) : V.2.2 19 0 = some 20 := h__.2.2.2.2.2.2.2.2.2.2.2.2.2.2.2.2.2.2.2.2.2.2.2.1
theorem CV.r28_0 {V : Vt} (h__ : CV V) : V.2.2 28 0 = some 29 := h__.2.2.2.2.2.2.2.2.2.2.2.2.2.2.2.2.2.2.2.2.2.2.2.2.1
theorem CV.r22_0 {V : Vt} (h__ : CV V) : V.2.2 22 0 = some 23 := h__.2.2.2.2.2.2.2.2.2.2.2.2.2.2.2.2.2.2.2.2.2.2.2.2.2.1
theorem CV.r22_1 {V : Vt} (h__ : CV V) : V.2.2 22 1 = some 24 := h__.2.2.2.2.2.2.2.2.2.2.2.2.2.2.2.2.2.2.2.2.2.2.2.2.2.2.1
theorem CV.ru {V : Vt} (h__ : CV V) : ∀ k, k < 16 → V.2.2 (30 + 4 * k) 0 = some (31 + 4 * k) := h__.2.2.2.2.2.2.2.2.2.2.2.2.2.2.2.2.2.2.2.2.2.2.2.2.2.2.2.1
theorem CV.ro {V : Vt} (h__ : CV V) : ∀ k, k < 16 → V.2.2 (32 + 4 * k) 0 = some (33 + 4 * k) ∧ V.2.2 14 k = some (32 + 4 * k) := h__.2.2.2.2.2.2.2.2.2.2.2.2.2.2.2.2.2.2.2.2.2.2.2.2.2.2.2.2
theorem cq1 {T : Tt} (h : CT T) {n : Nat} (hn : n < 7) {β : Type} {k : Option β} : req (aIn T 1 0 (nI n)) k = k := rq (aIn_nI h.k1 (by rw [h.n1]; exact hn) (by omega))
theorem cq4 {T : Tt} (h : CT T) {n : Nat} (hn : n < 160) {β : Type} {k : Option β} : req (aIn T 4 0 (nI n)) k = k := rq (aIn_nI h.k4 (by rw [h.n4]; exact hn) (by omega))
theorem cq5 {T : Tt} (h : CT T) {n : Nat} (hn : n < 8) {β : Type} {k : Option β} : req (aIn T 5 0 (nI n)) k = k := rq (aIn_nI h.k5 (by rw [h.n5]; exact hn) (by omega))
theorem cq6 {T : Tt} (h : CT T) {n : Nat} (hn : n < 8) {β : Type} {k : Option β} : req (aIn T 6 0 (nI n)) k = k := rq (aIn_nI h.k6 (by rw [h.n6]; exact hn) (by omega))
theorem cq7 {T : Tt} (h : CT T) {n : Nat} (hn : n < 12) {β : Type} {k : Option β} : req (aIn T 7 0 (nI n)) k = k := rq (aIn_nI h.k7 (by rw [h.n7]; exact hn) (by omega))
theorem cq12 {T : Tt} (h : CT T) {n : Nat} (hn : n < 2) {β : Type} {k : Option β} : req (aIn T 12 6 (nI n)) k = k := rq (aIn_nI h.k12 (by rw [h.n12]; exact hn) (by omega))
theorem cq13 {T : Tt} (h : CT T) {n : Nat} (hn : n < 16) {β : Type} {k : Option β} : req (aIn T 13 5 (nI n)) k = k := rq (aIn_nI h.k13 (by rw [h.n13]; exact hn) (by omega))
theorem cq14 {T : Tt} (h : CT T) {n : Nat} (hn : n < 16) {β : Type} {k : Option β} : req (aIn T 14 5 (nI n)) k = k := rq (aIn_nI h.k14 (by rw [h.n14]; exact hn) (by omega))
theorem cq15 {T : Tt} (h : CT T) {n : Nat} (hn : n < 16) {β : Type} {k : Option β} : req (aIn T 15 0 (nI n)) k = k := rq (aIn_nI h.k15 (by rw [h.n15]; exact hn) (by omega))
theorem cq16 {T : Tt} (h : CT T) {n : Nat} (hn : n < 16) {β : Type} {k : Option β} : req (aIn T 16 0 (nI n)) k = k := rq (aIn_nI h.k16 (by rw [h.n16]; exact hn) (by omega))
theorem cq18 {T : Tt} (h : CT T) {n : Nat} (hn : n < 160) {β : Type} {k : Option β} : req (aIn T 18 0 (nI n)) k = k := rq (aIn_nI h.k18 (by rw [h.n18]; exact hn) (by omega))
theorem cq20 {T : Tt} (h : CT T) {n : Nat} (hn : n < 160) {β : Type} {k : Option β} : req (aIn T 20 0 (nI n)) k = k := rq (aIn_nI h.k20 (by rw [h.n20]; exact hn) (by omega))
theorem cq21 {T : Tt} (h : CT T) {n : Nat} (hn : n < 400) {β : Type} {k : Option β} : req (aIn T 21 2 (nI n)) k = k := rq (aIn_nI h.k21 (by rw [h.n21]; exact hn) (by omega))
theorem cq24 {T : Tt} (h : CT T) {n : Nat} (hn : n < 28) {β : Type} {k : Option β} : req (aIn T 24 1 (nI n)) k = k := rq (aIn_nI h.k24 (by rw [h.n24]; exact hn) (by omega))
theorem cq25 {T : Tt} (h : CT T) {n : Nat} (hn : n < 20) {β : Type} {k : Option β} : req (aIn T 25 0 (nI n)) k = k := rq (aIn_nI h.k25 (by rw [h.n25]; exact hn) (by omega))
theorem cq26 {T : Tt} (h : CT T) {n : Nat} (hn : n < 8) {β : Type} {k : Option β} : req (aIn T 26 0 (nI n)) k = k := rq (aIn_nI h.k26 (by rw [h.n26]; exact hn) (by omega))
theorem cq27 {T : Tt} (h : CT T) {n : Nat} (hn : n < 21) {β : Type} {k : Option β} : req (aIn T 27 1 (nI n)) k = k := rq (aIn_nI h.k27 (by rw [h.n27]; exact hn) (by omega))
theorem cq29 {T : Tt} (h : CT T) {n : Nat} (hn : n < 160) {β : Type} {k : Option β} : req (aIn T 29 0 (nI n)) k = k := rq (aIn_nI h.k29 (by rw [h.n29]; exact hn) (by omega))
theorem CV.e13 {V W : Vt} (h : CV V) (e : ∀ a j, a ≠ 13 → W.2.2 a j = V.2.2 a j) : CV W := CV.mk ⟨(e _ _ (by omega)).trans h.r0_1, (e _ _ (by omega)).trans h.r0_2, (e _ _ (by omega)).trans h.r0_3, (e _ _ (by omega)).trans h.r0_4, (e _ _ (by omega)).trans h.r0_5, (e _ _ (by omega)).trans h.r0_6, (e _ _ (by omega)).trans h.r0_7, (e _ _ (by omega)).trans h.r0_8, (e _ _ (by omega)).trans h.r0_9, (e _ _ (by omega)).trans h.r0_10, (e _ _ (by omega)).trans h.r0_16, (e _ _ (by omega)).trans h.r0_17, (e _ _ (by omega)).trans h.r0_18, (e _ _ (by omega)).trans h.r0_22, (e _ _ (by omega)).trans h.r0_23, (e _ _ (by omega)).trans h.r2_0, (e _ _ (by omega)).trans h.r2_1, (e _ _ (by omega)).trans h.r2_2, (e _ _ (by omega)).trans h.r2_3, (e _ _ (by omega)).trans h.r2_4, (e _ _ (by omega)).trans h.r2_5, (e _ _ (by omega)).trans h.r3_0, (e _ _ (by omega)).trans h.r17_0, (e _ _ (by omega)).trans h.r19_0, (e _ _ (by omega)).trans h.r28_0, (e _ _ (by omega)).trans h.r22_0, (e _ _ (by omega)).trans h.r22_1, fun k hk => (e _ _ (by omega)).trans (h.ru k hk), fun k hk => ⟨(e _ _ (by omega)).trans (h.ro k hk).1, (e _ _ (by omega)).trans (h.ro k hk).2⟩⟩
theorem CV.eq3 {V W : Vt} (h : CV V) (e : W.2.2 = V.2.2) : CV W := by
  unfold CV CV.B at *
  rw [e]
  exact h
