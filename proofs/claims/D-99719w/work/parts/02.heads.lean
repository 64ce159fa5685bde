/-! LeaningMarketLaw -/
set_option maxRecDepth 100000
def RX0 : String := "LeaningMarketLaw"
abbrev cX0_market : ByteArray := method_3_code
def yX0_market : MethodName := ⟨RX0, "market", "(LLeaningMarket;I[J)I"⟩
abbrev cX0_law : ByteArray := method_4_code
def yX0_law : MethodName := ⟨RX0, "law", "(LLeaningMarket;I[J)I"⟩
abbrev cX0_work : ByteArray := method_5_code
def yX0_work : MethodName := ⟨RX0, "work", "(LLeaningMarket;I[J)I"⟩
abbrev cX0_book : ByteArray := method_6_code
def yX0_book : MethodName := ⟨RX0, "book", "(LLeaningMarket;I[J)I"⟩
abbrev cX0_told : ByteArray := method_7_code
def yX0_told : MethodName := ⟨RX0, "told", "(LLeaningMarket;I[J)I"⟩
abbrev cX0_thing : ByteArray := method_8_code
def yX0_thing : MethodName := ⟨RX0, "thing", "(LLeaningMarket;II[J)I"⟩
abbrev cX0_cry : ByteArray := method_9_code
def yX0_cry : MethodName := ⟨RX0, "cry", "(LLeaningMarket;II[J)I"⟩
abbrev cX0_stands : ByteArray := method_10_code
def yX0_stands : MethodName := ⟨RX0, "stands", "(LLeaningMarket;IIII[J)I"⟩
abbrev cX0_would : ByteArray := method_11_code
def yX0_would : MethodName := ⟨RX0, "would", "(LLeaningMarket;IIIIIII[J)I"⟩
abbrev cX0_ahead : ByteArray := method_12_code
def yX0_ahead : MethodName := ⟨RX0, "ahead", "(LLeaningMarket;II[J)I"⟩
abbrev cX0_worth : ByteArray := method_13_code
def yX0_worth : MethodName := ⟨RX0, "worth", "(LLeaningMarket;III[J)I"⟩
abbrev cX0_fattest : ByteArray := method_14_code
def yX0_fattest : MethodName := ⟨RX0, "fattest", "(LLeaningMarket;I[J)I"⟩
abbrev cX0_match : ByteArray := method_15_code
def yX0_match : MethodName := ⟨RX0, "match", "(LLeaningMarket;II[J)I"⟩
abbrev cX0_fewest : ByteArray := method_16_code
def yX0_fewest : MethodName := ⟨RX0, "fewest", "(LLeaningMarket;I[J)I"⟩
abbrev cX0_level : ByteArray := method_17_code
def yX0_level : MethodName := ⟨RX0, "level", "(LLeaningMarket;II[J)I"⟩
abbrev cX0_fits : ByteArray := method_18_code
def yX0_fits : MethodName := ⟨RX0, "fits", "(LLeaningMarket;I[J)I"⟩
abbrev cX0_look : ByteArray := method_19_code
def yX0_look : MethodName := ⟨RX0, "look", "(LLeaningMarket;I[J)I"⟩
abbrev cX0_falsely : ByteArray := method_20_code
def yX0_falsely : MethodName := ⟨RX0, "falsely", "(LLeaningMarket;I[J)I"⟩
abbrev cX0_sellers : ByteArray := method_21_code
def yX0_sellers : MethodName := ⟨RX0, "sellers", "(LLeaningMarket;III[J)I"⟩
abbrev cX0_even : ByteArray := method_22_code
def yX0_even : MethodName := ⟨RX0, "even", "(LLeaningMarket;III[J)I"⟩
abbrev cX0_share : ByteArray := method_23_code
def yX0_share : MethodName := ⟨RX0, "share", "(LLeaningMarket;III[J)I"⟩
abbrev cX0_heaviest : ByteArray := method_24_code
def yX0_heaviest : MethodName := ⟨RX0, "heaviest", "(LLeaningMarket;I[J)I"⟩
abbrev cX0_above : ByteArray := method_25_code
def yX0_above : MethodName := ⟨RX0, "above", "(LLeaningMarket;I[J)I"⟩
abbrev cX0_alike : ByteArray := method_26_code
def yX0_alike : MethodName := ⟨RX0, "alike", "(LLeaningMarket;I[J)I"⟩
abbrev cX0_against : ByteArray := method_27_code
def yX0_against : MethodName := ⟨RX0, "against", "(LLeaningMarket;II[J)I"⟩
abbrev cX0_fair : ByteArray := method_28_code
def yX0_fair : MethodName := ⟨RX0, "fair", "(LLeaningMarket;IIII[J)I"⟩
abbrev cX0_span : ByteArray := method_29_code
def yX0_span : MethodName := ⟨RX0, "span", "(LLeaningMarket;IIIIII[J)I"⟩
theorem q94 : (Jvm.Cond.initialized "LeaningMarketLaw") ∈ lw_all := lw_g (lw_at lw_m1 0 rfl) rfl
theorem q147 : (Jvm.Cond.classLink "LeaningMarketLaw" (8 : Nat) "LeaningMarket") ∈ lw_all := lw_g (lw_at lw_m1 53 rfl) rfl
theorem q149 : (Jvm.Cond.methodLink "LeaningMarketLaw" (102 : Nat) ({ cls := "LeaningMarket", name := "<init>", desc := "()V" } : Jvm.MethodName)) ∈ lw_all := lw_g (lw_at lw_m1 55 rfl) rfl
theorem q806 : (Jvm.Cond.methodLink "LeaningMarketLaw" (106 : Nat) ({ cls := "LeaningMarket", name := "feed", desc := "(IIIII)I" } : Jvm.MethodName)) ∈ lw_all := lw_g (lw_at lw_m3 232 rfl) rfl
theorem q814 : (Jvm.Cond.methodLink "LeaningMarketLaw" (130 : Nat) ({ cls := "LeaningMarket", name := "fault", desc := "()I" } : Jvm.MethodName)) ∈ lw_all := lw_g (lw_at lw_m4 0 rfl) rfl
theorem q818 : (Jvm.Cond.methodLink "LeaningMarketLaw" (134 : Nat) ({ cls := "LeaningMarket", name := "undo", desc := "()I" } : Jvm.MethodName)) ∈ lw_all := lw_g (lw_at lw_m4 4 rfl) rfl
theorem q826 : (Jvm.Cond.methodLink "LeaningMarketLaw" (166 : Nat) ({ cls := "LeaningMarket", name := "fat", desc := "()I" } : Jvm.MethodName)) ∈ lw_all := lw_g (lw_at lw_m4 12 rfl) rfl
theorem q848 : (Jvm.Cond.methodLink "LeaningMarketLaw" (170 : Nat) ({ cls := "LeaningMarket", name := "mend", desc := "()I" } : Jvm.MethodName)) ∈ lw_all := lw_g (lw_at lw_m4 34 rfl) rfl
theorem q858 : (Jvm.Cond.methodLink "LeaningMarketLaw" (220 : Nat) ({ cls := "LeaningMarket", name := "image", desc := "()I" } : Jvm.MethodName)) ∈ lw_all := lw_g (lw_at lw_m4 44 rfl) rfl
theorem q866 : (Jvm.Cond.methodLink "LeaningMarketLaw" (224 : Nat) ({ cls := "LeaningMarket", name := "restore", desc := "()I" } : Jvm.MethodName)) ∈ lw_all := lw_g (lw_at lw_m4 52 rfl) rfl
theorem q870 : (Jvm.Cond.methodLink "LeaningMarketLaw" (228 : Nat) ({ cls := "LeaningMarket", name := "status", desc := "(I)I" } : Jvm.MethodName)) ∈ lw_all := lw_g (lw_at lw_m4 56 rfl) rfl
theorem q877 : (Jvm.Cond.methodLink "LeaningMarketLaw" (232 : Nat) ({ cls := "LeaningMarket", name := "count", desc := "(I)I" } : Jvm.MethodName)) ∈ lw_all := lw_g (lw_at lw_m4 63 rfl) rfl
theorem q881 : (Jvm.Cond.methodLink "LeaningMarketLaw" (111 : Nat) ({ cls := "LeaningMarketLaw", name := "market", desc := "(LLeaningMarket;I[J)I" } : Jvm.MethodName)) ∈ lw_all := lw_g (lw_at lw_m4 67 rfl) rfl
theorem q882 : (Jvm.Cond.static ({ cls := "LeaningMarketLaw", name := "market", desc := "(LLeaningMarket;I[J)I" } : Jvm.MethodName)) ∈ lw_all := lw_g (lw_at lw_m4 68 rfl) rfl
theorem q883 : (Jvm.Cond.codeWith ({ cls := "LeaningMarketLaw", name := "market", desc := "(LLeaningMarket;I[J)I" } : Jvm.MethodName) method_3_code (4 : Nat) (Option.some Jvm.ClassFile.FieldType.int) [((0 : Nat), (9 : Nat), (12 : Nat), (13 : Nat))]) ∈ lw_all := lw_g (lw_at lw_m4 69 rfl) rfl
theorem q884 : (Jvm.Cond.classLink "LeaningMarketLaw" (13 : Nat) "java/lang/IllegalArgumentException") ∈ lw_all := lw_g (lw_at lw_m4 70 rfl) rfl
theorem q885 : (Jvm.Cond.methodLink "LeaningMarketLaw" (7 : Nat) ({ cls := "LeaningMarket", name := "market", desc := "(I)I" } : Jvm.MethodName)) ∈ lw_all := lw_g (lw_at lw_m4 71 rfl) rfl
theorem q1192 : (Jvm.Cond.methodLink "LeaningMarketLaw" (121 : Nat) ({ cls := "LeaningMarketLaw", name := "law", desc := "(LLeaningMarket;I[J)I" } : Jvm.MethodName)) ∈ lw_all := lw_g (lw_at lw_m5 138 rfl) rfl
theorem q1193 : (Jvm.Cond.static ({ cls := "LeaningMarketLaw", name := "law", desc := "(LLeaningMarket;I[J)I" } : Jvm.MethodName)) ∈ lw_all := lw_g (lw_at lw_m5 139 rfl) rfl
theorem q1194 : (Jvm.Cond.codeWith ({ cls := "LeaningMarketLaw", name := "law", desc := "(LLeaningMarket;I[J)I" } : Jvm.MethodName) method_4_code (4 : Nat) (Option.some Jvm.ClassFile.FieldType.int) [((0 : Nat), (9 : Nat), (12 : Nat), (13 : Nat))]) ∈ lw_all := lw_g (lw_at lw_m5 140 rfl) rfl
theorem q1195 : (Jvm.Cond.methodLink "LeaningMarketLaw" (15 : Nat) ({ cls := "LeaningMarket", name := "law", desc := "(I)I" } : Jvm.MethodName)) ∈ lw_all := lw_g (lw_at lw_m5 141 rfl) rfl
theorem q1328 : (Jvm.Cond.methodLink "LeaningMarketLaw" (124 : Nat) ({ cls := "LeaningMarketLaw", name := "work", desc := "(LLeaningMarket;I[J)I" } : Jvm.MethodName)) ∈ lw_all := lw_g (lw_at lw_m6 34 rfl) rfl
theorem q1329 : (Jvm.Cond.static ({ cls := "LeaningMarketLaw", name := "work", desc := "(LLeaningMarket;I[J)I" } : Jvm.MethodName)) ∈ lw_all := lw_g (lw_at lw_m6 35 rfl) rfl
theorem q1330 : (Jvm.Cond.codeWith ({ cls := "LeaningMarketLaw", name := "work", desc := "(LLeaningMarket;I[J)I" } : Jvm.MethodName) method_5_code (4 : Nat) (Option.some Jvm.ClassFile.FieldType.int) [((0 : Nat), (9 : Nat), (12 : Nat), (13 : Nat))]) ∈ lw_all := lw_g (lw_at lw_m6 36 rfl) rfl
theorem q1331 : (Jvm.Cond.methodLink "LeaningMarketLaw" (18 : Nat) ({ cls := "LeaningMarket", name := "work", desc := "(I)I" } : Jvm.MethodName)) ∈ lw_all := lw_g (lw_at lw_m6 37 rfl) rfl
theorem q1625 : (Jvm.Cond.methodLink "LeaningMarketLaw" (127 : Nat) ({ cls := "LeaningMarketLaw", name := "book", desc := "(LLeaningMarket;I[J)I" } : Jvm.MethodName)) ∈ lw_all := lw_g (lw_at lw_m7 91 rfl) rfl
theorem q1626 : (Jvm.Cond.static ({ cls := "LeaningMarketLaw", name := "book", desc := "(LLeaningMarket;I[J)I" } : Jvm.MethodName)) ∈ lw_all := lw_g (lw_at lw_m7 92 rfl) rfl
theorem q1627 : (Jvm.Cond.codeWith ({ cls := "LeaningMarketLaw", name := "book", desc := "(LLeaningMarket;I[J)I" } : Jvm.MethodName) method_6_code (4 : Nat) (Option.some Jvm.ClassFile.FieldType.int) [((0 : Nat), (9 : Nat), (12 : Nat), (13 : Nat))]) ∈ lw_all := lw_g (lw_at lw_m7 93 rfl) rfl
theorem q1628 : (Jvm.Cond.methodLink "LeaningMarketLaw" (21 : Nat) ({ cls := "LeaningMarket", name := "book", desc := "(I)I" } : Jvm.MethodName)) ∈ lw_all := lw_g (lw_at lw_m7 94 rfl) rfl
theorem q1674 : (Jvm.Cond.methodLink "LeaningMarketLaw" (138 : Nat) ({ cls := "LeaningMarketLaw", name := "told", desc := "(LLeaningMarket;I[J)I" } : Jvm.MethodName)) ∈ lw_all := lw_g (lw_at lw_m7 140 rfl) rfl
theorem q1675 : (Jvm.Cond.static ({ cls := "LeaningMarketLaw", name := "told", desc := "(LLeaningMarket;I[J)I" } : Jvm.MethodName)) ∈ lw_all := lw_g (lw_at lw_m7 141 rfl) rfl
theorem q1676 : (Jvm.Cond.codeWith ({ cls := "LeaningMarketLaw", name := "told", desc := "(LLeaningMarket;I[J)I" } : Jvm.MethodName) method_7_code (4 : Nat) (Option.some Jvm.ClassFile.FieldType.int) [((0 : Nat), (9 : Nat), (12 : Nat), (13 : Nat))]) ∈ lw_all := lw_g (lw_at lw_m7 142 rfl) rfl
theorem q1677 : (Jvm.Cond.methodLink "LeaningMarketLaw" (24 : Nat) ({ cls := "LeaningMarket", name := "told", desc := "(I)I" } : Jvm.MethodName)) ∈ lw_all := lw_g (lw_at lw_m7 143 rfl) rfl
theorem q1700 : (Jvm.Cond.methodLink "LeaningMarketLaw" (141 : Nat) ({ cls := "LeaningMarketLaw", name := "thing", desc := "(LLeaningMarket;II[J)I" } : Jvm.MethodName)) ∈ lw_all := lw_g (lw_at lw_m7 166 rfl) rfl
theorem q1701 : (Jvm.Cond.static ({ cls := "LeaningMarketLaw", name := "thing", desc := "(LLeaningMarket;II[J)I" } : Jvm.MethodName)) ∈ lw_all := lw_g (lw_at lw_m7 167 rfl) rfl
theorem q1702 : (Jvm.Cond.codeWith ({ cls := "LeaningMarketLaw", name := "thing", desc := "(LLeaningMarket;II[J)I" } : Jvm.MethodName) method_8_code (5 : Nat) (Option.some Jvm.ClassFile.FieldType.int) [((0 : Nat), (10 : Nat), (13 : Nat), (31 : Nat)), ((0 : Nat), (10 : Nat), (17 : Nat), (13 : Nat))]) ∈ lw_all := lw_g (lw_at lw_m7 168 rfl) rfl
theorem q1703 : (Jvm.Cond.classLink "LeaningMarketLaw" (31 : Nat) "java/util/NoSuchElementException") ∈ lw_all := lw_g (lw_at lw_m7 169 rfl) rfl
theorem q1704 : (Jvm.Cond.methodLink "LeaningMarketLaw" (27 : Nat) ({ cls := "LeaningMarket", name := "thing", desc := "(II)I" } : Jvm.MethodName)) ∈ lw_all := lw_g (lw_at lw_m7 170 rfl) rfl
theorem q1733 : (Jvm.Cond.methodLink "LeaningMarketLaw" (145 : Nat) ({ cls := "LeaningMarketLaw", name := "cry", desc := "(LLeaningMarket;II[J)I" } : Jvm.MethodName)) ∈ lw_all := lw_g (lw_at lw_m7 199 rfl) rfl
theorem q1734 : (Jvm.Cond.static ({ cls := "LeaningMarketLaw", name := "cry", desc := "(LLeaningMarket;II[J)I" } : Jvm.MethodName)) ∈ lw_all := lw_g (lw_at lw_m7 200 rfl) rfl
theorem q1735 : (Jvm.Cond.codeWith ({ cls := "LeaningMarketLaw", name := "cry", desc := "(LLeaningMarket;II[J)I" } : Jvm.MethodName) method_9_code (5 : Nat) (Option.some Jvm.ClassFile.FieldType.int) [((0 : Nat), (10 : Nat), (13 : Nat), (31 : Nat)), ((0 : Nat), (10 : Nat), (17 : Nat), (13 : Nat))]) ∈ lw_all := lw_g (lw_at lw_m7 201 rfl) rfl
theorem q1736 : (Jvm.Cond.methodLink "LeaningMarketLaw" (33 : Nat) ({ cls := "LeaningMarket", name := "cry", desc := "(II)I" } : Jvm.MethodName)) ∈ lw_all := lw_g (lw_at lw_m7 202 rfl) rfl
theorem q1740 : (Jvm.Cond.methodLink "LeaningMarketLaw" (148 : Nat) ({ cls := "LeaningMarketLaw", name := "stands", desc := "(LLeaningMarket;IIII[J)I" } : Jvm.MethodName)) ∈ lw_all := lw_g (lw_at lw_m7 206 rfl) rfl
theorem q1741 : (Jvm.Cond.static ({ cls := "LeaningMarketLaw", name := "stands", desc := "(LLeaningMarket;IIII[J)I" } : Jvm.MethodName)) ∈ lw_all := lw_g (lw_at lw_m7 207 rfl) rfl
theorem q1742 : (Jvm.Cond.codeWith ({ cls := "LeaningMarketLaw", name := "stands", desc := "(LLeaningMarket;IIII[J)I" } : Jvm.MethodName) method_10_code (7 : Nat) (Option.some Jvm.ClassFile.FieldType.int) [((0 : Nat), (14 : Nat), (17 : Nat), (31 : Nat)), ((0 : Nat), (14 : Nat), (21 : Nat), (13 : Nat))]) ∈ lw_all := lw_g (lw_at lw_m7 208 rfl) rfl
theorem q1743 : (Jvm.Cond.methodLink "LeaningMarketLaw" (36 : Nat) ({ cls := "LeaningMarket", name := "stands", desc := "(IIII)I" } : Jvm.MethodName)) ∈ lw_all := lw_g (lw_at lw_m7 209 rfl) rfl
theorem q1748 : (Jvm.Cond.methodLink "LeaningMarketLaw" (152 : Nat) ({ cls := "LeaningMarketLaw", name := "would", desc := "(LLeaningMarket;IIIIIII[J)I" } : Jvm.MethodName)) ∈ lw_all := lw_g (lw_at lw_m7 214 rfl) rfl
theorem q1749 : (Jvm.Cond.static ({ cls := "LeaningMarketLaw", name := "would", desc := "(LLeaningMarket;IIIIIII[J)I" } : Jvm.MethodName)) ∈ lw_all := lw_g (lw_at lw_m7 215 rfl) rfl
theorem q1750 : (Jvm.Cond.codeWith ({ cls := "LeaningMarketLaw", name := "would", desc := "(LLeaningMarket;IIIIIII[J)I" } : Jvm.MethodName) method_11_code (10 : Nat) (Option.some Jvm.ClassFile.FieldType.int) [((0 : Nat), (20 : Nat), (23 : Nat), (13 : Nat))]) ∈ lw_all := lw_g (lw_at lw_m7 216 rfl) rfl
theorem q1751 : (Jvm.Cond.methodLink "LeaningMarketLaw" (40 : Nat) ({ cls := "LeaningMarket", name := "would", desc := "(IIIIIII)I" } : Jvm.MethodName)) ∈ lw_all := lw_g (lw_at lw_m7 217 rfl) rfl
theorem q1756 : (Jvm.Cond.methodLink "LeaningMarketLaw" (156 : Nat) ({ cls := "LeaningMarketLaw", name := "ahead", desc := "(LLeaningMarket;II[J)I" } : Jvm.MethodName)) ∈ lw_all := lw_g (lw_at lw_m7 222 rfl) rfl
theorem q1757 : (Jvm.Cond.static ({ cls := "LeaningMarketLaw", name := "ahead", desc := "(LLeaningMarket;II[J)I" } : Jvm.MethodName)) ∈ lw_all := lw_g (lw_at lw_m7 223 rfl) rfl
theorem q1758 : (Jvm.Cond.codeWith ({ cls := "LeaningMarketLaw", name := "ahead", desc := "(LLeaningMarket;II[J)I" } : Jvm.MethodName) method_12_code (5 : Nat) (Option.some Jvm.ClassFile.FieldType.int) [((0 : Nat), (10 : Nat), (13 : Nat), (13 : Nat))]) ∈ lw_all := lw_g (lw_at lw_m7 224 rfl) rfl
theorem q1759 : (Jvm.Cond.methodLink "LeaningMarketLaw" (44 : Nat) ({ cls := "LeaningMarket", name := "ahead", desc := "(II)I" } : Jvm.MethodName)) ∈ lw_all := lw_g (lw_at lw_m7 225 rfl) rfl
theorem q1768 : (Jvm.Cond.methodLink "LeaningMarketLaw" (159 : Nat) ({ cls := "LeaningMarketLaw", name := "worth", desc := "(LLeaningMarket;III[J)I" } : Jvm.MethodName)) ∈ lw_all := lw_g (lw_at lw_m7 234 rfl) rfl
theorem q1769 : (Jvm.Cond.static ({ cls := "LeaningMarketLaw", name := "worth", desc := "(LLeaningMarket;III[J)I" } : Jvm.MethodName)) ∈ lw_all := lw_g (lw_at lw_m7 235 rfl) rfl
theorem q1770 : (Jvm.Cond.codeWith ({ cls := "LeaningMarketLaw", name := "worth", desc := "(LLeaningMarket;III[J)I" } : Jvm.MethodName) method_13_code (6 : Nat) (Option.some Jvm.ClassFile.FieldType.int) [((0 : Nat), (11 : Nat), (14 : Nat), (31 : Nat)), ((0 : Nat), (11 : Nat), (18 : Nat), (13 : Nat))]) ∈ lw_all := lw_g (lw_at lw_m7 236 rfl) rfl
theorem q1771 : (Jvm.Cond.methodLink "LeaningMarketLaw" (47 : Nat) ({ cls := "LeaningMarket", name := "worth", desc := "(III)J" } : Jvm.MethodName)) ∈ lw_all := lw_g (lw_at lw_m7 237 rfl) rfl
theorem q1782 : (Jvm.Cond.methodLink "LeaningMarketLaw" (163 : Nat) ({ cls := "LeaningMarketLaw", name := "fattest", desc := "(LLeaningMarket;I[J)I" } : Jvm.MethodName)) ∈ lw_all := lw_g (lw_at lw_m8 8 rfl) rfl
theorem q1783 : (Jvm.Cond.static ({ cls := "LeaningMarketLaw", name := "fattest", desc := "(LLeaningMarket;I[J)I" } : Jvm.MethodName)) ∈ lw_all := lw_g (lw_at lw_m8 9 rfl) rfl
theorem q1784 : (Jvm.Cond.codeWith ({ cls := "LeaningMarketLaw", name := "fattest", desc := "(LLeaningMarket;I[J)I" } : Jvm.MethodName) method_14_code (4 : Nat) (Option.some Jvm.ClassFile.FieldType.int) [((0 : Nat), (8 : Nat), (11 : Nat), (13 : Nat))]) ∈ lw_all := lw_g (lw_at lw_m8 10 rfl) rfl
theorem q1785 : (Jvm.Cond.methodLink "LeaningMarketLaw" (51 : Nat) ({ cls := "LeaningMarket", name := "fattest", desc := "(I)J" } : Jvm.MethodName)) ∈ lw_all := lw_g (lw_at lw_m8 11 rfl) rfl
theorem q1789 : (Jvm.Cond.methodLink "LeaningMarketLaw" (174 : Nat) ({ cls := "LeaningMarketLaw", name := "match", desc := "(LLeaningMarket;II[J)I" } : Jvm.MethodName)) ∈ lw_all := lw_g (lw_at lw_m8 15 rfl) rfl
theorem q1790 : (Jvm.Cond.static ({ cls := "LeaningMarketLaw", name := "match", desc := "(LLeaningMarket;II[J)I" } : Jvm.MethodName)) ∈ lw_all := lw_g (lw_at lw_m8 16 rfl) rfl
theorem q1791 : (Jvm.Cond.codeWith ({ cls := "LeaningMarketLaw", name := "match", desc := "(LLeaningMarket;II[J)I" } : Jvm.MethodName) method_15_code (5 : Nat) (Option.some Jvm.ClassFile.FieldType.int) [((0 : Nat), (10 : Nat), (13 : Nat), (13 : Nat))]) ∈ lw_all := lw_g (lw_at lw_m8 17 rfl) rfl
theorem q1792 : (Jvm.Cond.methodLink "LeaningMarketLaw" (55 : Nat) ({ cls := "LeaningMarket", name := "match", desc := "(II)I" } : Jvm.MethodName)) ∈ lw_all := lw_g (lw_at lw_m8 18 rfl) rfl
theorem q1804 : (Jvm.Cond.methodLink "LeaningMarketLaw" (177 : Nat) ({ cls := "LeaningMarketLaw", name := "fewest", desc := "(LLeaningMarket;I[J)I" } : Jvm.MethodName)) ∈ lw_all := lw_g (lw_at lw_m8 30 rfl) rfl
theorem q1805 : (Jvm.Cond.static ({ cls := "LeaningMarketLaw", name := "fewest", desc := "(LLeaningMarket;I[J)I" } : Jvm.MethodName)) ∈ lw_all := lw_g (lw_at lw_m8 31 rfl) rfl
theorem q1806 : (Jvm.Cond.codeWith ({ cls := "LeaningMarketLaw", name := "fewest", desc := "(LLeaningMarket;I[J)I" } : Jvm.MethodName) method_16_code (4 : Nat) (Option.some Jvm.ClassFile.FieldType.int) [((0 : Nat), (9 : Nat), (12 : Nat), (13 : Nat))]) ∈ lw_all := lw_g (lw_at lw_m8 32 rfl) rfl
theorem q1807 : (Jvm.Cond.methodLink "LeaningMarketLaw" (58 : Nat) ({ cls := "LeaningMarket", name := "fewest", desc := "(I)I" } : Jvm.MethodName)) ∈ lw_all := lw_g (lw_at lw_m8 33 rfl) rfl
theorem q1811 : (Jvm.Cond.methodLink "LeaningMarketLaw" (180 : Nat) ({ cls := "LeaningMarketLaw", name := "level", desc := "(LLeaningMarket;II[J)I" } : Jvm.MethodName)) ∈ lw_all := lw_g (lw_at lw_m8 37 rfl) rfl
theorem q1812 : (Jvm.Cond.static ({ cls := "LeaningMarketLaw", name := "level", desc := "(LLeaningMarket;II[J)I" } : Jvm.MethodName)) ∈ lw_all := lw_g (lw_at lw_m8 38 rfl) rfl
theorem q1813 : (Jvm.Cond.codeWith ({ cls := "LeaningMarketLaw", name := "level", desc := "(LLeaningMarket;II[J)I" } : Jvm.MethodName) method_17_code (5 : Nat) (Option.some Jvm.ClassFile.FieldType.int) [((0 : Nat), (10 : Nat), (13 : Nat), (13 : Nat))]) ∈ lw_all := lw_g (lw_at lw_m8 39 rfl) rfl
theorem q1814 : (Jvm.Cond.methodLink "LeaningMarketLaw" (61 : Nat) ({ cls := "LeaningMarket", name := "level", desc := "(II)I" } : Jvm.MethodName)) ∈ lw_all := lw_g (lw_at lw_m8 40 rfl) rfl
theorem q1829 : (Jvm.Cond.methodLink "LeaningMarketLaw" (183 : Nat) ({ cls := "LeaningMarketLaw", name := "fits", desc := "(LLeaningMarket;I[J)I" } : Jvm.MethodName)) ∈ lw_all := lw_g (lw_at lw_m8 55 rfl) rfl
theorem q1830 : (Jvm.Cond.static ({ cls := "LeaningMarketLaw", name := "fits", desc := "(LLeaningMarket;I[J)I" } : Jvm.MethodName)) ∈ lw_all := lw_g (lw_at lw_m8 56 rfl) rfl
theorem q1831 : (Jvm.Cond.codeWith ({ cls := "LeaningMarketLaw", name := "fits", desc := "(LLeaningMarket;I[J)I" } : Jvm.MethodName) method_18_code (4 : Nat) (Option.some Jvm.ClassFile.FieldType.int) [((0 : Nat), (9 : Nat), (12 : Nat), (13 : Nat))]) ∈ lw_all := lw_g (lw_at lw_m8 57 rfl) rfl
theorem q1832 : (Jvm.Cond.methodLink "LeaningMarketLaw" (64 : Nat) ({ cls := "LeaningMarket", name := "fits", desc := "(I)I" } : Jvm.MethodName)) ∈ lw_all := lw_g (lw_at lw_m8 58 rfl) rfl
theorem q1841 : (Jvm.Cond.methodLink "LeaningMarketLaw" (186 : Nat) ({ cls := "LeaningMarketLaw", name := "look", desc := "(LLeaningMarket;I[J)I" } : Jvm.MethodName)) ∈ lw_all := lw_g (lw_at lw_m8 67 rfl) rfl
theorem q1842 : (Jvm.Cond.static ({ cls := "LeaningMarketLaw", name := "look", desc := "(LLeaningMarket;I[J)I" } : Jvm.MethodName)) ∈ lw_all := lw_g (lw_at lw_m8 68 rfl) rfl
theorem q1843 : (Jvm.Cond.codeWith ({ cls := "LeaningMarketLaw", name := "look", desc := "(LLeaningMarket;I[J)I" } : Jvm.MethodName) method_19_code (4 : Nat) (Option.some Jvm.ClassFile.FieldType.int) [((0 : Nat), (9 : Nat), (12 : Nat), (13 : Nat))]) ∈ lw_all := lw_g (lw_at lw_m8 69 rfl) rfl
theorem q1844 : (Jvm.Cond.methodLink "LeaningMarketLaw" (67 : Nat) ({ cls := "LeaningMarket", name := "look", desc := "(I)I" } : Jvm.MethodName)) ∈ lw_all := lw_g (lw_at lw_m8 70 rfl) rfl
theorem q1852 : (Jvm.Cond.methodLink "LeaningMarketLaw" (189 : Nat) ({ cls := "LeaningMarketLaw", name := "falsely", desc := "(LLeaningMarket;I[J)I" } : Jvm.MethodName)) ∈ lw_all := lw_g (lw_at lw_m8 78 rfl) rfl
theorem q1853 : (Jvm.Cond.static ({ cls := "LeaningMarketLaw", name := "falsely", desc := "(LLeaningMarket;I[J)I" } : Jvm.MethodName)) ∈ lw_all := lw_g (lw_at lw_m8 79 rfl) rfl
theorem q1854 : (Jvm.Cond.codeWith ({ cls := "LeaningMarketLaw", name := "falsely", desc := "(LLeaningMarket;I[J)I" } : Jvm.MethodName) method_20_code (4 : Nat) (Option.some Jvm.ClassFile.FieldType.int) [((0 : Nat), (9 : Nat), (12 : Nat), (13 : Nat))]) ∈ lw_all := lw_g (lw_at lw_m8 80 rfl) rfl
theorem q1855 : (Jvm.Cond.methodLink "LeaningMarketLaw" (70 : Nat) ({ cls := "LeaningMarket", name := "falsely", desc := "(I)I" } : Jvm.MethodName)) ∈ lw_all := lw_g (lw_at lw_m8 81 rfl) rfl
theorem q1859 : (Jvm.Cond.methodLink "LeaningMarketLaw" (192 : Nat) ({ cls := "LeaningMarketLaw", name := "sellers", desc := "(LLeaningMarket;III[J)I" } : Jvm.MethodName)) ∈ lw_all := lw_g (lw_at lw_m8 85 rfl) rfl
theorem q1860 : (Jvm.Cond.static ({ cls := "LeaningMarketLaw", name := "sellers", desc := "(LLeaningMarket;III[J)I" } : Jvm.MethodName)) ∈ lw_all := lw_g (lw_at lw_m8 86 rfl) rfl
theorem q1861 : (Jvm.Cond.codeWith ({ cls := "LeaningMarketLaw", name := "sellers", desc := "(LLeaningMarket;III[J)I" } : Jvm.MethodName) method_21_code (6 : Nat) (Option.some Jvm.ClassFile.FieldType.int) [((0 : Nat), (12 : Nat), (15 : Nat), (13 : Nat))]) ∈ lw_all := lw_g (lw_at lw_m8 87 rfl) rfl
theorem q1862 : (Jvm.Cond.methodLink "LeaningMarketLaw" (73 : Nat) ({ cls := "LeaningMarket", name := "sellers", desc := "(III)I" } : Jvm.MethodName)) ∈ lw_all := lw_g (lw_at lw_m8 88 rfl) rfl
theorem q1869 : (Jvm.Cond.methodLink "LeaningMarketLaw" (195 : Nat) ({ cls := "LeaningMarketLaw", name := "even", desc := "(LLeaningMarket;III[J)I" } : Jvm.MethodName)) ∈ lw_all := lw_g (lw_at lw_m8 95 rfl) rfl
theorem q1870 : (Jvm.Cond.static ({ cls := "LeaningMarketLaw", name := "even", desc := "(LLeaningMarket;III[J)I" } : Jvm.MethodName)) ∈ lw_all := lw_g (lw_at lw_m8 96 rfl) rfl
theorem q1871 : (Jvm.Cond.codeWith ({ cls := "LeaningMarketLaw", name := "even", desc := "(LLeaningMarket;III[J)I" } : Jvm.MethodName) method_22_code (6 : Nat) (Option.some Jvm.ClassFile.FieldType.int) [((0 : Nat), (11 : Nat), (14 : Nat), (13 : Nat))]) ∈ lw_all := lw_g (lw_at lw_m8 97 rfl) rfl
theorem q1872 : (Jvm.Cond.methodLink "LeaningMarketLaw" (77 : Nat) ({ cls := "LeaningMarket", name := "even", desc := "(III)J" } : Jvm.MethodName)) ∈ lw_all := lw_g (lw_at lw_m8 98 rfl) rfl
theorem q1877 : (Jvm.Cond.methodLink "LeaningMarketLaw" (198 : Nat) ({ cls := "LeaningMarketLaw", name := "share", desc := "(LLeaningMarket;III[J)I" } : Jvm.MethodName)) ∈ lw_all := lw_g (lw_at lw_m8 103 rfl) rfl
theorem q1878 : (Jvm.Cond.static ({ cls := "LeaningMarketLaw", name := "share", desc := "(LLeaningMarket;III[J)I" } : Jvm.MethodName)) ∈ lw_all := lw_g (lw_at lw_m8 104 rfl) rfl
theorem q1879 : (Jvm.Cond.codeWith ({ cls := "LeaningMarketLaw", name := "share", desc := "(LLeaningMarket;III[J)I" } : Jvm.MethodName) method_23_code (6 : Nat) (Option.some Jvm.ClassFile.FieldType.int) [((0 : Nat), (12 : Nat), (15 : Nat), (31 : Nat)), ((0 : Nat), (12 : Nat), (19 : Nat), (13 : Nat))]) ∈ lw_all := lw_g (lw_at lw_m8 105 rfl) rfl
theorem q1880 : (Jvm.Cond.methodLink "LeaningMarketLaw" (80 : Nat) ({ cls := "LeaningMarket", name := "share", desc := "(III)I" } : Jvm.MethodName)) ∈ lw_all := lw_g (lw_at lw_m8 106 rfl) rfl
theorem q1888 : (Jvm.Cond.methodLink "LeaningMarketLaw" (201 : Nat) ({ cls := "LeaningMarketLaw", name := "heaviest", desc := "(LLeaningMarket;I[J)I" } : Jvm.MethodName)) ∈ lw_all := lw_g (lw_at lw_m8 114 rfl) rfl
theorem q1889 : (Jvm.Cond.static ({ cls := "LeaningMarketLaw", name := "heaviest", desc := "(LLeaningMarket;I[J)I" } : Jvm.MethodName)) ∈ lw_all := lw_g (lw_at lw_m8 115 rfl) rfl
theorem q1890 : (Jvm.Cond.codeWith ({ cls := "LeaningMarketLaw", name := "heaviest", desc := "(LLeaningMarket;I[J)I" } : Jvm.MethodName) method_24_code (4 : Nat) (Option.some Jvm.ClassFile.FieldType.int) [((0 : Nat), (9 : Nat), (12 : Nat), (13 : Nat))]) ∈ lw_all := lw_g (lw_at lw_m8 116 rfl) rfl
theorem q1891 : (Jvm.Cond.methodLink "LeaningMarketLaw" (83 : Nat) ({ cls := "LeaningMarket", name := "heaviest", desc := "(I)I" } : Jvm.MethodName)) ∈ lw_all := lw_g (lw_at lw_m8 117 rfl) rfl
theorem q1895 : (Jvm.Cond.methodLink "LeaningMarketLaw" (204 : Nat) ({ cls := "LeaningMarketLaw", name := "above", desc := "(LLeaningMarket;I[J)I" } : Jvm.MethodName)) ∈ lw_all := lw_g (lw_at lw_m8 121 rfl) rfl
theorem q1896 : (Jvm.Cond.static ({ cls := "LeaningMarketLaw", name := "above", desc := "(LLeaningMarket;I[J)I" } : Jvm.MethodName)) ∈ lw_all := lw_g (lw_at lw_m8 122 rfl) rfl
theorem q1897 : (Jvm.Cond.codeWith ({ cls := "LeaningMarketLaw", name := "above", desc := "(LLeaningMarket;I[J)I" } : Jvm.MethodName) method_25_code (4 : Nat) (Option.some Jvm.ClassFile.FieldType.int) [((0 : Nat), (9 : Nat), (12 : Nat), (31 : Nat))]) ∈ lw_all := lw_g (lw_at lw_m8 123 rfl) rfl
theorem q1898 : (Jvm.Cond.methodLink "LeaningMarketLaw" (86 : Nat) ({ cls := "LeaningMarket", name := "above", desc := "(I)I" } : Jvm.MethodName)) ∈ lw_all := lw_g (lw_at lw_m8 124 rfl) rfl
theorem q1902 : (Jvm.Cond.methodLink "LeaningMarketLaw" (207 : Nat) ({ cls := "LeaningMarketLaw", name := "alike", desc := "(LLeaningMarket;I[J)I" } : Jvm.MethodName)) ∈ lw_all := lw_g (lw_at lw_m8 128 rfl) rfl
theorem q1903 : (Jvm.Cond.static ({ cls := "LeaningMarketLaw", name := "alike", desc := "(LLeaningMarket;I[J)I" } : Jvm.MethodName)) ∈ lw_all := lw_g (lw_at lw_m8 129 rfl) rfl
theorem q1904 : (Jvm.Cond.codeWith ({ cls := "LeaningMarketLaw", name := "alike", desc := "(LLeaningMarket;I[J)I" } : Jvm.MethodName) method_26_code (4 : Nat) (Option.some Jvm.ClassFile.FieldType.int) [((0 : Nat), (9 : Nat), (12 : Nat), (13 : Nat))]) ∈ lw_all := lw_g (lw_at lw_m8 130 rfl) rfl
theorem q1905 : (Jvm.Cond.methodLink "LeaningMarketLaw" (89 : Nat) ({ cls := "LeaningMarket", name := "alike", desc := "(I)I" } : Jvm.MethodName)) ∈ lw_all := lw_g (lw_at lw_m8 131 rfl) rfl
theorem q1909 : (Jvm.Cond.methodLink "LeaningMarketLaw" (210 : Nat) ({ cls := "LeaningMarketLaw", name := "against", desc := "(LLeaningMarket;II[J)I" } : Jvm.MethodName)) ∈ lw_all := lw_g (lw_at lw_m8 135 rfl) rfl
theorem q1910 : (Jvm.Cond.static ({ cls := "LeaningMarketLaw", name := "against", desc := "(LLeaningMarket;II[J)I" } : Jvm.MethodName)) ∈ lw_all := lw_g (lw_at lw_m8 136 rfl) rfl
theorem q1911 : (Jvm.Cond.codeWith ({ cls := "LeaningMarketLaw", name := "against", desc := "(LLeaningMarket;II[J)I" } : Jvm.MethodName) method_27_code (5 : Nat) (Option.some Jvm.ClassFile.FieldType.int) [((0 : Nat), (10 : Nat), (13 : Nat), (31 : Nat))]) ∈ lw_all := lw_g (lw_at lw_m8 137 rfl) rfl
theorem q1912 : (Jvm.Cond.methodLink "LeaningMarketLaw" (92 : Nat) ({ cls := "LeaningMarket", name := "against", desc := "(II)I" } : Jvm.MethodName)) ∈ lw_all := lw_g (lw_at lw_m8 138 rfl) rfl
theorem q1916 : (Jvm.Cond.methodLink "LeaningMarketLaw" (213 : Nat) ({ cls := "LeaningMarketLaw", name := "fair", desc := "(LLeaningMarket;IIII[J)I" } : Jvm.MethodName)) ∈ lw_all := lw_g (lw_at lw_m8 142 rfl) rfl
theorem q1917 : (Jvm.Cond.static ({ cls := "LeaningMarketLaw", name := "fair", desc := "(LLeaningMarket;IIII[J)I" } : Jvm.MethodName)) ∈ lw_all := lw_g (lw_at lw_m8 143 rfl) rfl
theorem q1918 : (Jvm.Cond.codeWith ({ cls := "LeaningMarketLaw", name := "fair", desc := "(LLeaningMarket;IIII[J)I" } : Jvm.MethodName) method_28_code (7 : Nat) (Option.some Jvm.ClassFile.FieldType.int) [((0 : Nat), (14 : Nat), (17 : Nat), (13 : Nat))]) ∈ lw_all := lw_g (lw_at lw_m8 144 rfl) rfl
theorem q1919 : (Jvm.Cond.methodLink "LeaningMarketLaw" (95 : Nat) ({ cls := "LeaningMarket", name := "fair", desc := "(IIII)I" } : Jvm.MethodName)) ∈ lw_all := lw_g (lw_at lw_m8 145 rfl) rfl
theorem q1937 : (Jvm.Cond.methodLink "LeaningMarketLaw" (216 : Nat) ({ cls := "LeaningMarketLaw", name := "span", desc := "(LLeaningMarket;IIIIII[J)I" } : Jvm.MethodName)) ∈ lw_all := lw_g (lw_at lw_m8 163 rfl) rfl
theorem q1938 : (Jvm.Cond.static ({ cls := "LeaningMarketLaw", name := "span", desc := "(LLeaningMarket;IIIIII[J)I" } : Jvm.MethodName)) ∈ lw_all := lw_g (lw_at lw_m8 164 rfl) rfl
theorem q1939 : (Jvm.Cond.codeWith ({ cls := "LeaningMarketLaw", name := "span", desc := "(LLeaningMarket;IIIIII[J)I" } : Jvm.MethodName) method_29_code (9 : Nat) (Option.some Jvm.ClassFile.FieldType.int) [((0 : Nat), (18 : Nat), (21 : Nat), (13 : Nat))]) ∈ lw_all := lw_g (lw_at lw_m8 165 rfl) rfl
theorem q1940 : (Jvm.Cond.methodLink "LeaningMarketLaw" (98 : Nat) ({ cls := "LeaningMarket", name := "span", desc := "(IIIIII)I" } : Jvm.MethodName)) ∈ lw_all := lw_g (lw_at lw_m8 166 rfl) rfl
theorem q1944 : (Jvm.Cond.classLink "LeaningMarketLaw" (103 : Nat) "LeaningMarketModel") ∈ lw_all := lw_g (lw_at lw_m8 170 rfl) rfl
theorem q1946 : (Jvm.Cond.methodLink "LeaningMarketLaw" (105 : Nat) ({ cls := "LeaningMarketModel", name := "<init>", desc := "()V" } : Jvm.MethodName)) ∈ lw_all := lw_g (lw_at lw_m8 172 rfl) rfl
theorem q2102 : (Jvm.Cond.methodLink "LeaningMarketLaw" (117 : Nat) ({ cls := "LeaningMarketModel", name := "thrown", desc := "()I" } : Jvm.MethodName)) ∈ lw_all := lw_g (lw_at lw_m9 88 rfl) rfl
theorem q2106 : (Jvm.Cond.methodLink "LeaningMarketLaw" (110 : Nat) ({ cls := "LeaningMarketModel", name := "feed", desc := "(IIIII)I" } : Jvm.MethodName)) ∈ lw_all := lw_g (lw_at lw_m9 92 rfl) rfl
theorem q2110 : (Jvm.Cond.methodLink "LeaningMarketLaw" (116 : Nat) ({ cls := "LeaningMarketModel", name := "market", desc := "(I)I" } : Jvm.MethodName)) ∈ lw_all := lw_g (lw_at lw_m9 96 rfl) rfl
theorem q2186 : (Jvm.Cond.methodLink "LeaningMarketLaw" (123 : Nat) ({ cls := "LeaningMarketModel", name := "law", desc := "(I)I" } : Jvm.MethodName)) ∈ lw_all := lw_g (lw_at lw_m9 172 rfl) rfl
theorem q2226 : (Jvm.Cond.methodLink "LeaningMarketLaw" (129 : Nat) ({ cls := "LeaningMarketModel", name := "book", desc := "(I)I" } : Jvm.MethodName)) ∈ lw_all := lw_g (lw_at lw_m9 212 rfl) rfl
theorem q2230 : (Jvm.Cond.methodLink "LeaningMarketLaw" (133 : Nat) ({ cls := "LeaningMarketModel", name := "fault", desc := "()I" } : Jvm.MethodName)) ∈ lw_all := lw_g (lw_at lw_m9 216 rfl) rfl
theorem q2234 : (Jvm.Cond.methodLink "LeaningMarketLaw" (126 : Nat) ({ cls := "LeaningMarketModel", name := "work", desc := "(I)I" } : Jvm.MethodName)) ∈ lw_all := lw_g (lw_at lw_m9 220 rfl) rfl
theorem q2311 : (Jvm.Cond.methodLink "LeaningMarketLaw" (137 : Nat) ({ cls := "LeaningMarketModel", name := "undo", desc := "()I" } : Jvm.MethodName)) ∈ lw_all := lw_g (lw_at lw_m10 57 rfl) rfl
theorem q2315 : (Jvm.Cond.methodLink "LeaningMarketLaw" (140 : Nat) ({ cls := "LeaningMarketModel", name := "told", desc := "(I)I" } : Jvm.MethodName)) ∈ lw_all := lw_g (lw_at lw_m10 61 rfl) rfl
theorem q2330 : (Jvm.Cond.methodLink "LeaningMarketLaw" (144 : Nat) ({ cls := "LeaningMarketModel", name := "thing", desc := "(II)I" } : Jvm.MethodName)) ∈ lw_all := lw_g (lw_at lw_m10 76 rfl) rfl
theorem q2338 : (Jvm.Cond.methodLink "LeaningMarketLaw" (147 : Nat) ({ cls := "LeaningMarketModel", name := "cry", desc := "(II)I" } : Jvm.MethodName)) ∈ lw_all := lw_g (lw_at lw_m10 84 rfl) rfl
theorem q2342 : (Jvm.Cond.methodLink "LeaningMarketLaw" (151 : Nat) ({ cls := "LeaningMarketModel", name := "stands", desc := "(IIII)I" } : Jvm.MethodName)) ∈ lw_all := lw_g (lw_at lw_m10 88 rfl) rfl
theorem q2346 : (Jvm.Cond.methodLink "LeaningMarketLaw" (155 : Nat) ({ cls := "LeaningMarketModel", name := "would", desc := "(IIIIIII)I" } : Jvm.MethodName)) ∈ lw_all := lw_g (lw_at lw_m10 92 rfl) rfl
theorem q2350 : (Jvm.Cond.methodLink "LeaningMarketLaw" (158 : Nat) ({ cls := "LeaningMarketModel", name := "ahead", desc := "(II)I" } : Jvm.MethodName)) ∈ lw_all := lw_g (lw_at lw_m10 96 rfl) rfl
theorem q2358 : (Jvm.Cond.methodLink "LeaningMarketLaw" (162 : Nat) ({ cls := "LeaningMarketModel", name := "worth", desc := "(III)J" } : Jvm.MethodName)) ∈ lw_all := lw_g (lw_at lw_m10 104 rfl) rfl
theorem q2380 : (Jvm.Cond.methodLink "LeaningMarketLaw" (165 : Nat) ({ cls := "LeaningMarketModel", name := "fattest", desc := "(I)J" } : Jvm.MethodName)) ∈ lw_all := lw_g (lw_at lw_m10 126 rfl) rfl
theorem q2392 : (Jvm.Cond.methodLink "LeaningMarketLaw" (169 : Nat) ({ cls := "LeaningMarketModel", name := "fat", desc := "()I" } : Jvm.MethodName)) ∈ lw_all := lw_g (lw_at lw_m10 138 rfl) rfl
theorem q2396 : (Jvm.Cond.methodLink "LeaningMarketLaw" (173 : Nat) ({ cls := "LeaningMarketModel", name := "mend", desc := "()I" } : Jvm.MethodName)) ∈ lw_all := lw_g (lw_at lw_m10 142 rfl) rfl
theorem q2404 : (Jvm.Cond.methodLink "LeaningMarketLaw" (206 : Nat) ({ cls := "LeaningMarketModel", name := "above", desc := "(I)I" } : Jvm.MethodName)) ∈ lw_all := lw_g (lw_at lw_m10 150 rfl) rfl
theorem q2408 : (Jvm.Cond.methodLink "LeaningMarketLaw" (176 : Nat) ({ cls := "LeaningMarketModel", name := "match", desc := "(II)I" } : Jvm.MethodName)) ∈ lw_all := lw_g (lw_at lw_m10 154 rfl) rfl
theorem q2428 : (Jvm.Cond.methodLink "LeaningMarketLaw" (179 : Nat) ({ cls := "LeaningMarketModel", name := "fewest", desc := "(I)I" } : Jvm.MethodName)) ∈ lw_all := lw_g (lw_at lw_m10 174 rfl) rfl
theorem q2432 : (Jvm.Cond.methodLink "LeaningMarketLaw" (182 : Nat) ({ cls := "LeaningMarketModel", name := "level", desc := "(II)I" } : Jvm.MethodName)) ∈ lw_all := lw_g (lw_at lw_m10 178 rfl) rfl
theorem q2440 : (Jvm.Cond.methodLink "LeaningMarketLaw" (185 : Nat) ({ cls := "LeaningMarketModel", name := "fits", desc := "(I)I" } : Jvm.MethodName)) ∈ lw_all := lw_g (lw_at lw_m10 186 rfl) rfl
theorem q2448 : (Jvm.Cond.methodLink "LeaningMarketLaw" (188 : Nat) ({ cls := "LeaningMarketModel", name := "look", desc := "(I)I" } : Jvm.MethodName)) ∈ lw_all := lw_g (lw_at lw_m10 194 rfl) rfl
theorem q2456 : (Jvm.Cond.methodLink "LeaningMarketLaw" (191 : Nat) ({ cls := "LeaningMarketModel", name := "falsely", desc := "(I)I" } : Jvm.MethodName)) ∈ lw_all := lw_g (lw_at lw_m10 202 rfl) rfl
theorem q2460 : (Jvm.Cond.methodLink "LeaningMarketLaw" (194 : Nat) ({ cls := "LeaningMarketModel", name := "sellers", desc := "(III)I" } : Jvm.MethodName)) ∈ lw_all := lw_g (lw_at lw_m10 206 rfl) rfl
theorem q2470 : (Jvm.Cond.methodLink "LeaningMarketLaw" (197 : Nat) ({ cls := "LeaningMarketModel", name := "even", desc := "(III)J" } : Jvm.MethodName)) ∈ lw_all := lw_g (lw_at lw_m10 216 rfl) rfl
theorem q2474 : (Jvm.Cond.methodLink "LeaningMarketLaw" (200 : Nat) ({ cls := "LeaningMarketModel", name := "share", desc := "(III)I" } : Jvm.MethodName)) ∈ lw_all := lw_g (lw_at lw_m10 220 rfl) rfl
theorem q2482 : (Jvm.Cond.methodLink "LeaningMarketLaw" (203 : Nat) ({ cls := "LeaningMarketModel", name := "heaviest", desc := "(I)I" } : Jvm.MethodName)) ∈ lw_all := lw_g (lw_at lw_m10 228 rfl) rfl
theorem q2486 : (Jvm.Cond.methodLink "LeaningMarketLaw" (209 : Nat) ({ cls := "LeaningMarketModel", name := "alike", desc := "(I)I" } : Jvm.MethodName)) ∈ lw_all := lw_g (lw_at lw_m10 232 rfl) rfl
theorem q2490 : (Jvm.Cond.methodLink "LeaningMarketLaw" (212 : Nat) ({ cls := "LeaningMarketModel", name := "against", desc := "(II)I" } : Jvm.MethodName)) ∈ lw_all := lw_g (lw_at lw_m10 236 rfl) rfl
theorem q2494 : (Jvm.Cond.methodLink "LeaningMarketLaw" (215 : Nat) ({ cls := "LeaningMarketModel", name := "fair", desc := "(IIII)I" } : Jvm.MethodName)) ∈ lw_all := lw_g (lw_at lw_m11 0 rfl) rfl
theorem q2510 : (Jvm.Cond.methodLink "LeaningMarketLaw" (219 : Nat) ({ cls := "LeaningMarketModel", name := "span", desc := "(IIIIII)I" } : Jvm.MethodName)) ∈ lw_all := lw_g (lw_at lw_m11 16 rfl) rfl
theorem q2514 : (Jvm.Cond.methodLink "LeaningMarketLaw" (223 : Nat) ({ cls := "LeaningMarketModel", name := "image", desc := "()I" } : Jvm.MethodName)) ∈ lw_all := lw_g (lw_at lw_m11 20 rfl) rfl
theorem q2526 : (Jvm.Cond.methodLink "LeaningMarketLaw" (227 : Nat) ({ cls := "LeaningMarketModel", name := "restore", desc := "()I" } : Jvm.MethodName)) ∈ lw_all := lw_g (lw_at lw_m11 32 rfl) rfl
theorem q2530 : (Jvm.Cond.methodLink "LeaningMarketLaw" (231 : Nat) ({ cls := "LeaningMarketModel", name := "status", desc := "(I)I" } : Jvm.MethodName)) ∈ lw_all := lw_g (lw_at lw_m11 36 rfl) rfl
theorem q2534 : (Jvm.Cond.methodLink "LeaningMarketLaw" (235 : Nat) ({ cls := "LeaningMarketModel", name := "count", desc := "(I)I" } : Jvm.MethodName)) ∈ lw_all := lw_g (lw_at lw_m11 40 rfl) rfl

/-! LeaningMarket -/
set_option maxRecDepth 100000
def RX1 : String := "LeaningMarket"
def TX1 : u_T := fun k => match k with
  | 0 => ("LeaningMarket", "told", "LLeaningMarket$Told;", false)
  | 1 => ("LeaningMarket", "law", "LLeaningMarket$Term;", false)
  | 2 => ("LeaningMarket", "facts", "[I", true)
  | 3 => ("LeaningMarket", "bookOf", "[I", true)
  | 4 => ("LeaningMarket", "refused", "[I", true)
  | 5 => ("LeaningMarket", "now", "LLeaningMarket$Market;", true)
  | 6 => ("LeaningMarket", "probe", "LLeaningMarket$Market;", true)
  | 7 => ("LeaningMarket", "past", "[LLeaningMarket$Market;", true)
  | 8 => ("LeaningMarket", "images", "[LLeaningMarket$Market;", true)
  | 9 => ("LeaningMarket", "imagePast", "[LLeaningMarket$Market;", true)
  | 10 => ("LeaningMarket", "imageWorks", "[I", true)
  | 11 => ("LeaningMarket", "works", "I", false)
  | 12 => ("LeaningMarket", "refusedSteps", "I", false)
  | 13 => ("LeaningMarket", "lineMany", "I", false)
  | 14 => ("LeaningMarket", "seedNow", "I", false)
  | 15 => ("LeaningMarket", "taped", "I", false)
  | 16 => ("LeaningMarket", "faultAt", "I", false)
  | 17 => ("LeaningMarket", "imageMany", "I", false)
  | 18 => ("LeaningMarket", "tape", "[B", true)
  | 19 => ("LeaningMarket", "bestUp", "J", false)
  | 20 => ("LeaningMarket", "bestBelow", "J", false)
  | 21 => ("LeaningMarket", "shortest", "I", false)
  | 22 => ("LeaningMarket", "can", "[Z", true)
  | 23 => ("LeaningMarket", "then", "[Z", true)
  | _ => ("LeaningMarket", "stood", "[I", true)
def tyX1 : Nat → FieldType := fun k => match k with
  | 0 => .object "LeaningMarket$Told"
  | 1 => .object "LeaningMarket$Term"
  | 2 => .array .int
  | 3 => .array .int
  | 4 => .array .int
  | 5 => .object "LeaningMarket$Market"
  | 6 => .object "LeaningMarket$Market"
  | 7 => .array (.object "LeaningMarket$Market")
  | 8 => .array (.object "LeaningMarket$Market")
  | 9 => .array (.object "LeaningMarket$Market")
  | 10 => .array .int
  | 11 => .int
  | 12 => .int
  | 13 => .int
  | 14 => .int
  | 15 => .int
  | 16 => .int
  | 17 => .int
  | 18 => .array .byte
  | 19 => .long
  | 20 => .long
  | 21 => .int
  | 22 => .array .boolean
  | 23 => .array .boolean
  | _ => .array .int
abbrev wsX10 : List Cond := u_ws RX1 TX1 25
set_option maxRecDepth 100000 in
theorem nmX1 : ∀ a, a < 25 → ∀ b, b < 25 → a ≠ b → (TX1 a).2.1 ≠ (TX1 b).2.1 := by decide +kernel
set_option maxRecDepth 100000 in
theorem tyX1_ok : ∀ k, k < 25 → parseFieldDescriptor (TX1 k).2.2.1 = some (tyX1 k) := by decide +kernel
abbrev cX1_init : ByteArray := prog_1_method_2_code
def yX1_init : MethodName := ⟨RX1, "<init>", "()V"⟩
abbrev cX1_custom : ByteArray := prog_1_method_1_code
def yX1_custom : MethodName := ⟨RX1, "custom", "()LLeaningMarket$Term;"⟩
abbrev cX1_begins : ByteArray := prog_1_method_3_code
def yX1_begins : MethodName := ⟨RX1, "begins", "()V"⟩
abbrev cX1_feed : ByteArray := prog_1_method_13_code
def yX1_feed : MethodName := ⟨RX1, "feed", "(IIIII)I"⟩
abbrev cX1_put : ByteArray := prog_1_method_14_code
def yX1_put : MethodName := ⟨RX1, "put", "(I)V"⟩
abbrev cX1_fault : ByteArray := prog_1_method_20_code
def yX1_fault : MethodName := ⟨RX1, "fault", "()I"⟩
abbrev cX1_undo : ByteArray := prog_1_method_21_code
def yX1_undo : MethodName := ⟨RX1, "undo", "()I"⟩
abbrev cX1_fat : ByteArray := prog_1_method_38_code
def yX1_fat : MethodName := ⟨RX1, "fat", "()I"⟩
abbrev cX1_findRings : ByteArray := prog_1_method_34_code
def yX1_findRings : MethodName := ⟨RX1, "findRings", "(I)V"⟩
abbrev cX1_nothingYet : ByteArray := prog_1_method_31_code
def yX1_nothingYet : MethodName := ⟨RX1, "nothingYet", "()V"⟩
abbrev cX1_chains : ByteArray := prog_1_method_32_code
def yX1_chains : MethodName := ⟨RX1, "chains", "(IIIIJJI)V"⟩
abbrev cX1_has : ByteArray := prog_1_method_12_code
def yX1_has : MethodName := ⟨RX1, "has", "(II)Z"⟩
abbrev cX1_mend : ByteArray := prog_1_method_39_code
def yX1_mend : MethodName := ⟨RX1, "mend", "()I"⟩
abbrev cX1_image : ByteArray := prog_1_method_62_code
def yX1_image : MethodName := ⟨RX1, "image", "()I"⟩
abbrev cX1_kept : ByteArray := prog_1_method_61_code
def yX1_kept : MethodName := ⟨RX1, "kept", "([LLeaningMarket$Market;ILLeaningMarket$Market;)V"⟩
abbrev cX1_restore : ByteArray := prog_1_method_63_code
def yX1_restore : MethodName := ⟨RX1, "restore", "()I"⟩
abbrev cX1_status : ByteArray := prog_1_method_64_code
def yX1_status : MethodName := ⟨RX1, "status", "(I)I"⟩
abbrev cX1_isPart : ByteArray := prog_1_method_10_code
def yX1_isPart : MethodName := ⟨RX1, "isPart", "(I)Z"⟩
abbrev cX1_count : ByteArray := prog_1_method_65_code
def yX1_count : MethodName := ⟨RX1, "count", "(I)I"⟩
abbrev cX1_market : ByteArray := prog_1_method_16_code
def yX1_market : MethodName := ⟨RX1, "market", "(I)I"⟩
abbrev cX1_need : ByteArray := prog_1_method_6_code
def yX1_need : MethodName := ⟨RX1, "need", "(Z)V"⟩
abbrev cX1_failed : ByteArray := prog_1_method_15_code
def yX1_failed : MethodName := ⟨RX1, "failed", "(LLeaningMarket$Wrong;)I"⟩
abbrev cX1_law : ByteArray := prog_1_method_17_code
def yX1_law : MethodName := ⟨RX1, "law", "(I)I"⟩
abbrev cX1_work : ByteArray := prog_1_method_18_code
def yX1_work : MethodName := ⟨RX1, "work", "(I)I"⟩
abbrev cX1_wearBy : ByteArray := prog_1_method_5_code
def yX1_wearBy : MethodName := ⟨RX1, "wearBy", "(IIIIIII)I"⟩
abbrev cX1_standsBy : ByteArray := prog_1_method_4_code
def yX1_standsBy : MethodName := ⟨RX1, "standsBy", "(III)I"⟩
abbrev cX1_book : ByteArray := prog_1_method_19_code
def yX1_book : MethodName := ⟨RX1, "book", "(I)I"⟩
abbrev cX1_told : ByteArray := prog_1_method_22_code
def yX1_told : MethodName := ⟨RX1, "told", "(I)I"⟩
abbrev cX1_isIn : ByteArray := prog_1_method_11_code
def yX1_isIn : MethodName := ⟨RX1, "isIn", "(III)Z"⟩
abbrev cX1_thing : ByteArray := prog_1_method_23_code
def yX1_thing : MethodName := ⟨RX1, "thing", "(II)I"⟩
abbrev cX1_needThing : ByteArray := prog_1_method_8_code
def yX1_needThing : MethodName := ⟨RX1, "needThing", "(I)V"⟩
abbrev cX1_needThere : ByteArray := prog_1_method_7_code
def yX1_needThere : MethodName := ⟨RX1, "needThere", "(II)V"⟩
abbrev cX1_cry : ByteArray := prog_1_method_24_code
def yX1_cry : MethodName := ⟨RX1, "cry", "(II)I"⟩
abbrev cX1_stands : ByteArray := prog_1_method_25_code
def yX1_stands : MethodName := ⟨RX1, "stands", "(IIII)I"⟩
abbrev cX1_would : ByteArray := prog_1_method_26_code
def yX1_would : MethodName := ⟨RX1, "would", "(IIIIIII)I"⟩
abbrev cX1_ahead : ByteArray := prog_1_method_27_code
def yX1_ahead : MethodName := ⟨RX1, "ahead", "(II)I"⟩
abbrev cX1_worth : ByteArray := prog_1_method_36_code
def yX1_worth : MethodName := ⟨RX1, "worth", "(III)J"⟩
abbrev cX1_findChain : ByteArray := prog_1_method_33_code
def yX1_findChain : MethodName := ⟨RX1, "findChain", "(II)V"⟩
abbrev cX1_least : ByteArray := prog_1_method_35_code
def yX1_least : MethodName := ⟨RX1, "least", "(JJI)J"⟩
abbrev cX1_fattest : ByteArray := prog_1_method_37_code
def yX1_fattest : MethodName := ⟨RX1, "fattest", "(I)J"⟩
abbrev cX1_match : ByteArray := prog_1_method_42_code
def yX1_match : MethodName := ⟨RX1, "match", "(II)I"⟩
abbrev cX1_needSet : ByteArray := prog_1_method_9_code
def yX1_needSet : MethodName := ⟨RX1, "needSet", "(I)V"⟩
abbrev cX1_layMatch : ByteArray := prog_1_method_41_code
def yX1_layMatch : MethodName := ⟨RX1, "layMatch", "(I)V"⟩
abbrev cX1_fewest : ByteArray := prog_1_method_43_code
def yX1_fewest : MethodName := ⟨RX1, "fewest", "(I)I"⟩
abbrev cX1_level : ByteArray := prog_1_method_45_code
def yX1_level : MethodName := ⟨RX1, "level", "(II)I"⟩
abbrev cX1_weightOf : ByteArray := prog_1_method_44_code
def yX1_weightOf : MethodName := ⟨RX1, "weightOf", "(I)I"⟩
abbrev cX1_fits : ByteArray := prog_1_method_47_code
def yX1_fits : MethodName := ⟨RX1, "fits", "(I)I"⟩
abbrev cX1_isFit : ByteArray := prog_1_method_46_code
def yX1_isFit : MethodName := ⟨RX1, "isFit", "(II)Z"⟩
abbrev cX1_look : ByteArray := prog_1_method_49_code
def yX1_look : MethodName := ⟨RX1, "look", "(I)I"⟩
abbrev cX1_worstOf : ByteArray := prog_1_method_48_code
def yX1_worstOf : MethodName := ⟨RX1, "worstOf", "(II)I"⟩
abbrev cX1_falsely : ByteArray := prog_1_method_50_code
def yX1_falsely : MethodName := ⟨RX1, "falsely", "(I)I"⟩
abbrev cX1_sellers : ByteArray := prog_1_method_52_code
def yX1_sellers : MethodName := ⟨RX1, "sellers", "(III)I"⟩
abbrev cX1_hasBy : ByteArray := prog_1_method_51_code
def yX1_hasBy : MethodName := ⟨RX1, "hasBy", "(IIII)I"⟩
abbrev cX1_even : ByteArray := prog_1_method_53_code
def yX1_even : MethodName := ⟨RX1, "even", "(III)J"⟩
abbrev cX1_share : ByteArray := prog_1_method_55_code
def yX1_share : MethodName := ⟨RX1, "share", "(III)I"⟩
abbrev cX1_shared : ByteArray := prog_1_method_54_code
def yX1_shared : MethodName := ⟨RX1, "shared", "(II)I"⟩
abbrev cX1_heaviest : ByteArray := prog_1_method_28_code
def yX1_heaviest : MethodName := ⟨RX1, "heaviest", "(I)I"⟩
abbrev cX1_above : ByteArray := prog_1_method_40_code
def yX1_above : MethodName := ⟨RX1, "above", "(I)I"⟩
abbrev cX1_alike : ByteArray := prog_1_method_29_code
def yX1_alike : MethodName := ⟨RX1, "alike", "(I)I"⟩
abbrev cX1_against : ByteArray := prog_1_method_30_code
def yX1_against : MethodName := ⟨RX1, "against", "(II)I"⟩
abbrev cX1_fair : ByteArray := prog_1_method_59_code
def yX1_fair : MethodName := ⟨RX1, "fair", "(IIII)I"⟩
abbrev cX1_isFair : ByteArray := prog_1_method_58_code
def yX1_isFair : MethodName := ⟨RX1, "isFair", "(II)Z"⟩
abbrev cX1_fairBy : ByteArray := prog_1_method_57_code
def yX1_fairBy : MethodName := ⟨RX1, "fairBy", "(III)LLeaningMarket$Market;"⟩
abbrev cX1_draw : ByteArray := prog_1_method_56_code
def yX1_draw : MethodName := ⟨RX1, "draw", "(I)I"⟩
abbrev cX1_span : ByteArray := prog_1_method_60_code
def yX1_span : MethodName := ⟨RX1, "span", "(IIIIII)I"⟩
theorem q95 : (Jvm.Cond.initialized "LeaningMarket") ∈ lw_all := lw_g (lw_at lw_m1 1 rfl) rfl
theorem q148 : (Jvm.Cond.instantiable "LeaningMarket" (25 : Nat)) ∈ lw_all := lw_g (lw_at lw_m1 54 rfl) rfl
theorem q150 : (Jvm.Cond.instanceMethod ({ cls := "LeaningMarket", name := "<init>", desc := "()V" } : Jvm.MethodName)) ∈ lw_all := lw_g (lw_at lw_m1 56 rfl) rfl
theorem q151 : (Jvm.Cond.code ({ cls := "LeaningMarket", name := "<init>", desc := "()V" } : Jvm.MethodName) prog_1_method_2_code (1 : Nat) (Option.none : Option Jvm.ClassFile.FieldType)) ∈ lw_all := lw_g (lw_at lw_m1 57 rfl) rfl
theorem q152 : (Jvm.Cond.methodLink "LeaningMarket" (17 : Nat) ({ cls := "java/lang/Object", name := "<init>", desc := "()V" } : Jvm.MethodName)) ∈ lw_all := lw_g (lw_at lw_m1 58 rfl) rfl
theorem q155 : (Jvm.Cond.classLink "LeaningMarket" (22 : Nat) "LeaningMarket$Told") ∈ lw_all := lw_g (lw_at lw_m1 61 rfl) rfl
theorem q157 : (Jvm.Cond.methodLinkNest "LeaningMarket" (24 : Nat) ({ cls := "LeaningMarket$Told", name := "<init>", desc := "()V" } : Jvm.MethodName) "LeaningMarket") ∈ lw_tbl := lw_at lw_m1 63 rfl
theorem q507 : (Jvm.Cond.fieldLinkNest "LeaningMarket" (262 : Nat) "LeaningMarket$Told" "weight" "[I" "LeaningMarket") ∈ lw_tbl := lw_at lw_m2 173 rfl
theorem q512 : (Jvm.Cond.fieldLinkNest "LeaningMarket" (129 : Nat) "LeaningMarket$Told" "things" "I" "LeaningMarket") ∈ lw_tbl := lw_at lw_m2 178 rfl
theorem q519 : (Jvm.Cond.fieldLinkNest "LeaningMarket" (241 : Nat) "LeaningMarket$Told" "play" "I" "LeaningMarket") ∈ lw_tbl := lw_at lw_m2 185 rfl
theorem q534 : (Jvm.Cond.methodLink "LeaningMarket" (29 : Nat) ({ cls := "LeaningMarket", name := "custom", desc := "()LLeaningMarket$Term;" } : Jvm.MethodName)) ∈ lw_all := lw_g (lw_at lw_m2 200 rfl) rfl
theorem q535 : (Jvm.Cond.static ({ cls := "LeaningMarket", name := "custom", desc := "()LLeaningMarket$Term;" } : Jvm.MethodName)) ∈ lw_all := lw_g (lw_at lw_m2 201 rfl) rfl
theorem q536 : (Jvm.Cond.code ({ cls := "LeaningMarket", name := "custom", desc := "()LLeaningMarket$Term;" } : Jvm.MethodName) prog_1_method_1_code (0 : Nat) (Option.some (Jvm.ClassFile.FieldType.object "LeaningMarket$Term"))) ∈ lw_all := lw_g (lw_at lw_m2 202 rfl) rfl
theorem q537 : (Jvm.Cond.classLink "LeaningMarket" (3 : Nat) "LeaningMarket$By") ∈ lw_all := lw_g (lw_at lw_m2 203 rfl) rfl
theorem q539 : (Jvm.Cond.classLink "LeaningMarket" (5 : Nat) "LeaningMarket$Fact") ∈ lw_all := lw_g (lw_at lw_m2 205 rfl) rfl
theorem q541 : (Jvm.Cond.methodLink "LeaningMarket" (7 : Nat) ({ cls := "LeaningMarket$Fact", name := "<init>", desc := "(I)V" } : Jvm.MethodName)) ∈ lw_all := lw_g (lw_at lw_m2 207 rfl) rfl
theorem q552 : (Jvm.Cond.classLink "LeaningMarket" (11 : Nat) "LeaningMarket$Plain") ∈ lw_all := lw_g (lw_at lw_m2 218 rfl) rfl
theorem q554 : (Jvm.Cond.methodLink "LeaningMarket" (13 : Nat) ({ cls := "LeaningMarket$Plain", name := "<init>", desc := "(I)V" } : Jvm.MethodName)) ∈ lw_all := lw_g (lw_at lw_m2 220 rfl) rfl
theorem q562 : (Jvm.Cond.methodLink "LeaningMarket" (14 : Nat) ({ cls := "LeaningMarket$By", name := "<init>", desc := "(LLeaningMarket$Term;LLeaningMarket$Term;)V" } : Jvm.MethodName)) ∈ lw_all := lw_g (lw_at lw_m2 228 rfl) rfl
theorem q576 : (Jvm.Cond.classLink "LeaningMarket" (47 : Nat) "LeaningMarket$Market") ∈ lw_all := lw_g (lw_at lw_m3 2 rfl) rfl
theorem q578 : (Jvm.Cond.methodLinkNest "LeaningMarket" (49 : Nat) ({ cls := "LeaningMarket$Market", name := "<init>", desc := "(LLeaningMarket;)V" } : Jvm.MethodName) "LeaningMarket") ∈ lw_tbl := lw_at lw_m3 4 rfl
theorem q585 : (Jvm.Cond.fieldLinkNest "LeaningMarket" (259 : Nat) "LeaningMarket$Market" "weight" "[I" "LeaningMarket") ∈ lw_tbl := lw_at lw_m3 11 rfl
theorem q587 : (Jvm.Cond.fieldLinkNest "LeaningMarket" (263 : Nat) "LeaningMarket$Market" "weighed" "[I" "LeaningMarket") ∈ lw_tbl := lw_at lw_m3 13 rfl
theorem q590 : (Jvm.Cond.fieldLinkNest "LeaningMarket" (231 : Nat) "LeaningMarket$Market" "cries" "Ljava/util/ArrayList;" "LeaningMarket") ∈ lw_tbl := lw_at lw_m3 16 rfl
theorem q592 : (Jvm.Cond.fieldLinkNest "LeaningMarket" (238 : Nat) "LeaningMarket$Market" "lean" "I" "LeaningMarket") ∈ lw_tbl := lw_at lw_m3 18 rfl
theorem q594 : (Jvm.Cond.fieldLinkNest "LeaningMarket" (235 : Nat) "LeaningMarket$Market" "day" "I" "LeaningMarket") ∈ lw_tbl := lw_at lw_m3 20 rfl
theorem q596 : (Jvm.Cond.fieldLinkNest "LeaningMarket" (253 : Nat) "LeaningMarket$Market" "weighings" "I" "LeaningMarket") ∈ lw_tbl := lw_at lw_m3 22 rfl
theorem q599 : (Jvm.Cond.fieldLinkNest "LeaningMarket" (184 : Nat) "LeaningMarket$Market" "steps" "I" "LeaningMarket") ∈ lw_tbl := lw_at lw_m3 25 rfl
theorem q601 : (Jvm.Cond.fieldLinkNest "LeaningMarket" (187 : Nat) "LeaningMarket$Market" "done" "I" "LeaningMarket") ∈ lw_tbl := lw_at lw_m3 27 rfl
theorem q603 : (Jvm.Cond.fieldLinkNest "LeaningMarket" (190 : Nat) "LeaningMarket$Market" "refused" "I" "LeaningMarket") ∈ lw_tbl := lw_at lw_m3 29 rfl
theorem q629 : (Jvm.Cond.methodLink "LeaningMarket" (90 : Nat) ({ cls := "LeaningMarket", name := "begins", desc := "()V" } : Jvm.MethodName)) ∈ lw_all := lw_g (lw_at lw_m3 55 rfl) rfl
theorem q630 : (Jvm.Cond.privateMethod ({ cls := "LeaningMarket", name := "begins", desc := "()V" } : Jvm.MethodName)) ∈ lw_tbl := lw_at lw_m3 56 rfl
theorem q631 : (Jvm.Cond.instanceMethod ({ cls := "LeaningMarket", name := "begins", desc := "()V" } : Jvm.MethodName)) ∈ lw_all := lw_g (lw_at lw_m3 57 rfl) rfl
theorem q632 : (Jvm.Cond.code ({ cls := "LeaningMarket", name := "begins", desc := "()V" } : Jvm.MethodName) prog_1_method_3_code (1 : Nat) (Option.none : Option Jvm.ClassFile.FieldType)) ∈ lw_all := lw_g (lw_at lw_m3 58 rfl) rfl
theorem q633 : (Jvm.Cond.methodLink "LeaningMarket" (93 : Nat) ({ cls := "LeaningMarket$Market", name := "begins", desc := "()LLeaningMarket$Market;" } : Jvm.MethodName)) ∈ lw_all := lw_g (lw_at lw_m3 59 rfl) rfl
theorem q690 : (Jvm.Cond.selects "LeaningMarket" ({ cls := "java/lang/Object", name := "getClass", desc := "()Ljava/lang/Class;" } : Jvm.MethodName) ({ cls := "java/lang/Object", name := "getClass", desc := "()Ljava/lang/Class;" } : Jvm.MethodName)) ∈ lw_all := lw_g (lw_at lw_m3 116 rfl) rfl
theorem q729 : (Jvm.Cond.fieldLink "LeaningMarket" (25 : Nat) "LeaningMarket" "told" "LLeaningMarket$Told;") ∈ lw_all := lw_g (lw_at lw_m3 155 rfl) rfl
theorem q730 : (Jvm.Cond.fieldLink "LeaningMarket" (33 : Nat) "LeaningMarket" "law" "LLeaningMarket$Term;") ∈ lw_all := lw_g (lw_at lw_m3 156 rfl) rfl
theorem q731 : (Jvm.Cond.fieldLink "LeaningMarket" (37 : Nat) "LeaningMarket" "facts" "[I") ∈ lw_all := lw_g (lw_at lw_m3 157 rfl) rfl
theorem q732 : (Jvm.Cond.fieldLink "LeaningMarket" (41 : Nat) "LeaningMarket" "bookOf" "[I") ∈ lw_all := lw_g (lw_at lw_m3 158 rfl) rfl
theorem q733 : (Jvm.Cond.fieldLink "LeaningMarket" (44 : Nat) "LeaningMarket" "refused" "[I") ∈ lw_all := lw_g (lw_at lw_m3 159 rfl) rfl
theorem q734 : (Jvm.Cond.fieldLink "LeaningMarket" (52 : Nat) "LeaningMarket" "now" "LLeaningMarket$Market;") ∈ lw_all := lw_g (lw_at lw_m3 160 rfl) rfl
theorem q735 : (Jvm.Cond.fieldLink "LeaningMarket" (56 : Nat) "LeaningMarket" "probe" "LLeaningMarket$Market;") ∈ lw_all := lw_g (lw_at lw_m3 161 rfl) rfl
theorem q736 : (Jvm.Cond.fieldLink "LeaningMarket" (59 : Nat) "LeaningMarket" "past" "[LLeaningMarket$Market;") ∈ lw_all := lw_g (lw_at lw_m3 162 rfl) rfl
theorem q737 : (Jvm.Cond.fieldLink "LeaningMarket" (63 : Nat) "LeaningMarket" "images" "[LLeaningMarket$Market;") ∈ lw_all := lw_g (lw_at lw_m3 163 rfl) rfl
theorem q738 : (Jvm.Cond.fieldLink "LeaningMarket" (66 : Nat) "LeaningMarket" "imagePast" "[LLeaningMarket$Market;") ∈ lw_all := lw_g (lw_at lw_m3 164 rfl) rfl
theorem q739 : (Jvm.Cond.fieldLink "LeaningMarket" (69 : Nat) "LeaningMarket" "imageWorks" "[I") ∈ lw_all := lw_g (lw_at lw_m3 165 rfl) rfl
theorem q740 : (Jvm.Cond.fieldLink "LeaningMarket" (96 : Nat) "LeaningMarket" "works" "I") ∈ lw_all := lw_g (lw_at lw_m3 166 rfl) rfl
theorem q741 : (Jvm.Cond.fieldLink "LeaningMarket" (99 : Nat) "LeaningMarket" "refusedSteps" "I") ∈ lw_all := lw_g (lw_at lw_m3 167 rfl) rfl
theorem q742 : (Jvm.Cond.fieldLink "LeaningMarket" (102 : Nat) "LeaningMarket" "lineMany" "I") ∈ lw_all := lw_g (lw_at lw_m3 168 rfl) rfl
theorem q743 : (Jvm.Cond.fieldLink "LeaningMarket" (374 : Nat) "LeaningMarket" "seedNow" "I") ∈ lw_all := lw_g (lw_at lw_m3 169 rfl) rfl
theorem q744 : (Jvm.Cond.fieldLink "LeaningMarket" (140 : Nat) "LeaningMarket" "taped" "I") ∈ lw_all := lw_g (lw_at lw_m3 170 rfl) rfl
theorem q745 : (Jvm.Cond.fieldLink "LeaningMarket" (72 : Nat) "LeaningMarket" "faultAt" "I") ∈ lw_all := lw_g (lw_at lw_m3 171 rfl) rfl
theorem q746 : (Jvm.Cond.fieldLink "LeaningMarket" (105 : Nat) "LeaningMarket" "imageMany" "I") ∈ lw_all := lw_g (lw_at lw_m3 172 rfl) rfl
theorem q747 : (Jvm.Cond.fieldLink "LeaningMarket" (76 : Nat) "LeaningMarket" "tape" "[B") ∈ lw_all := lw_g (lw_at lw_m3 173 rfl) rfl
theorem q748 : (Jvm.Cond.fieldLink "LeaningMarket" (305 : Nat) "LeaningMarket" "bestUp" "J") ∈ lw_all := lw_g (lw_at lw_m3 174 rfl) rfl
theorem q749 : (Jvm.Cond.fieldLink "LeaningMarket" (309 : Nat) "LeaningMarket" "bestBelow" "J") ∈ lw_all := lw_g (lw_at lw_m3 175 rfl) rfl
theorem q750 : (Jvm.Cond.fieldLink "LeaningMarket" (312 : Nat) "LeaningMarket" "shortest" "I") ∈ lw_all := lw_g (lw_at lw_m3 176 rfl) rfl
theorem q751 : (Jvm.Cond.fieldLink "LeaningMarket" (80 : Nat) "LeaningMarket" "can" "[Z") ∈ lw_all := lw_g (lw_at lw_m3 177 rfl) rfl
theorem q752 : (Jvm.Cond.fieldLink "LeaningMarket" (84 : Nat) "LeaningMarket" "then" "[Z") ∈ lw_all := lw_g (lw_at lw_m3 178 rfl) rfl
theorem q753 : (Jvm.Cond.fieldLink "LeaningMarket" (87 : Nat) "LeaningMarket" "stood" "[I") ∈ lw_all := lw_g (lw_at lw_m3 179 rfl) rfl
theorem q754 : (Jvm.Cond.lays "LeaningMarket" "LeaningMarket" "told" "LLeaningMarket$Told;") ∈ lw_all := lw_g (lw_at lw_m3 180 rfl) rfl
theorem q755 : (Jvm.Cond.soleField "LeaningMarket" "told") ∈ lw_all := lw_g (lw_at lw_m3 181 rfl) rfl
theorem q756 : (Jvm.Cond.lays "LeaningMarket" "LeaningMarket" "law" "LLeaningMarket$Term;") ∈ lw_all := lw_g (lw_at lw_m3 182 rfl) rfl
theorem q757 : (Jvm.Cond.soleField "LeaningMarket" "law") ∈ lw_all := lw_g (lw_at lw_m3 183 rfl) rfl
theorem q758 : (Jvm.Cond.laysFinal "LeaningMarket" "LeaningMarket" "facts" "[I") ∈ lw_all := lw_g (lw_at lw_m3 184 rfl) rfl
theorem q759 : (Jvm.Cond.soleField "LeaningMarket" "facts") ∈ lw_all := lw_g (lw_at lw_m3 185 rfl) rfl
theorem q760 : (Jvm.Cond.laysFinal "LeaningMarket" "LeaningMarket" "bookOf" "[I") ∈ lw_all := lw_g (lw_at lw_m3 186 rfl) rfl
theorem q761 : (Jvm.Cond.soleField "LeaningMarket" "bookOf") ∈ lw_all := lw_g (lw_at lw_m3 187 rfl) rfl
theorem q762 : (Jvm.Cond.laysFinal "LeaningMarket" "LeaningMarket" "refused" "[I") ∈ lw_all := lw_g (lw_at lw_m3 188 rfl) rfl
theorem q763 : (Jvm.Cond.soleField "LeaningMarket" "refused") ∈ lw_all := lw_g (lw_at lw_m3 189 rfl) rfl
theorem q764 : (Jvm.Cond.laysFinal "LeaningMarket" "LeaningMarket" "now" "LLeaningMarket$Market;") ∈ lw_all := lw_g (lw_at lw_m3 190 rfl) rfl
theorem q765 : (Jvm.Cond.soleField "LeaningMarket" "now") ∈ lw_all := lw_g (lw_at lw_m3 191 rfl) rfl
theorem q766 : (Jvm.Cond.laysFinal "LeaningMarket" "LeaningMarket" "probe" "LLeaningMarket$Market;") ∈ lw_all := lw_g (lw_at lw_m3 192 rfl) rfl
theorem q767 : (Jvm.Cond.soleField "LeaningMarket" "probe") ∈ lw_all := lw_g (lw_at lw_m3 193 rfl) rfl
theorem q768 : (Jvm.Cond.laysFinal "LeaningMarket" "LeaningMarket" "past" "[LLeaningMarket$Market;") ∈ lw_all := lw_g (lw_at lw_m3 194 rfl) rfl
theorem q769 : (Jvm.Cond.soleField "LeaningMarket" "past") ∈ lw_all := lw_g (lw_at lw_m3 195 rfl) rfl
theorem q770 : (Jvm.Cond.laysFinal "LeaningMarket" "LeaningMarket" "images" "[LLeaningMarket$Market;") ∈ lw_all := lw_g (lw_at lw_m3 196 rfl) rfl
theorem q771 : (Jvm.Cond.soleField "LeaningMarket" "images") ∈ lw_all := lw_g (lw_at lw_m3 197 rfl) rfl
theorem q772 : (Jvm.Cond.laysFinal "LeaningMarket" "LeaningMarket" "imagePast" "[LLeaningMarket$Market;") ∈ lw_all := lw_g (lw_at lw_m3 198 rfl) rfl
theorem q773 : (Jvm.Cond.soleField "LeaningMarket" "imagePast") ∈ lw_all := lw_g (lw_at lw_m3 199 rfl) rfl
theorem q774 : (Jvm.Cond.laysFinal "LeaningMarket" "LeaningMarket" "imageWorks" "[I") ∈ lw_all := lw_g (lw_at lw_m3 200 rfl) rfl
theorem q775 : (Jvm.Cond.soleField "LeaningMarket" "imageWorks") ∈ lw_all := lw_g (lw_at lw_m3 201 rfl) rfl
theorem q776 : (Jvm.Cond.lays "LeaningMarket" "LeaningMarket" "works" "I") ∈ lw_all := lw_g (lw_at lw_m3 202 rfl) rfl
theorem q777 : (Jvm.Cond.soleField "LeaningMarket" "works") ∈ lw_all := lw_g (lw_at lw_m3 203 rfl) rfl
theorem q778 : (Jvm.Cond.lays "LeaningMarket" "LeaningMarket" "refusedSteps" "I") ∈ lw_all := lw_g (lw_at lw_m3 204 rfl) rfl
theorem q779 : (Jvm.Cond.soleField "LeaningMarket" "refusedSteps") ∈ lw_all := lw_g (lw_at lw_m3 205 rfl) rfl
theorem q780 : (Jvm.Cond.lays "LeaningMarket" "LeaningMarket" "lineMany" "I") ∈ lw_all := lw_g (lw_at lw_m3 206 rfl) rfl
theorem q781 : (Jvm.Cond.soleField "LeaningMarket" "lineMany") ∈ lw_all := lw_g (lw_at lw_m3 207 rfl) rfl
theorem q782 : (Jvm.Cond.lays "LeaningMarket" "LeaningMarket" "seedNow" "I") ∈ lw_all := lw_g (lw_at lw_m3 208 rfl) rfl
theorem q783 : (Jvm.Cond.soleField "LeaningMarket" "seedNow") ∈ lw_all := lw_g (lw_at lw_m3 209 rfl) rfl
theorem q784 : (Jvm.Cond.lays "LeaningMarket" "LeaningMarket" "taped" "I") ∈ lw_all := lw_g (lw_at lw_m3 210 rfl) rfl
theorem q785 : (Jvm.Cond.soleField "LeaningMarket" "taped") ∈ lw_all := lw_g (lw_at lw_m3 211 rfl) rfl
theorem q786 : (Jvm.Cond.lays "LeaningMarket" "LeaningMarket" "faultAt" "I") ∈ lw_all := lw_g (lw_at lw_m3 212 rfl) rfl
theorem q787 : (Jvm.Cond.soleField "LeaningMarket" "faultAt") ∈ lw_all := lw_g (lw_at lw_m3 213 rfl) rfl
theorem q788 : (Jvm.Cond.lays "LeaningMarket" "LeaningMarket" "imageMany" "I") ∈ lw_all := lw_g (lw_at lw_m3 214 rfl) rfl
theorem q789 : (Jvm.Cond.soleField "LeaningMarket" "imageMany") ∈ lw_all := lw_g (lw_at lw_m3 215 rfl) rfl
theorem q790 : (Jvm.Cond.laysFinal "LeaningMarket" "LeaningMarket" "tape" "[B") ∈ lw_all := lw_g (lw_at lw_m3 216 rfl) rfl
theorem q791 : (Jvm.Cond.soleField "LeaningMarket" "tape") ∈ lw_all := lw_g (lw_at lw_m3 217 rfl) rfl
theorem q792 : (Jvm.Cond.lays "LeaningMarket" "LeaningMarket" "bestUp" "J") ∈ lw_all := lw_g (lw_at lw_m3 218 rfl) rfl
theorem q793 : (Jvm.Cond.soleField "LeaningMarket" "bestUp") ∈ lw_all := lw_g (lw_at lw_m3 219 rfl) rfl
theorem q794 : (Jvm.Cond.lays "LeaningMarket" "LeaningMarket" "bestBelow" "J") ∈ lw_all := lw_g (lw_at lw_m3 220 rfl) rfl
theorem q795 : (Jvm.Cond.soleField "LeaningMarket" "bestBelow") ∈ lw_all := lw_g (lw_at lw_m3 221 rfl) rfl
theorem q796 : (Jvm.Cond.lays "LeaningMarket" "LeaningMarket" "shortest" "I") ∈ lw_all := lw_g (lw_at lw_m3 222 rfl) rfl
theorem q797 : (Jvm.Cond.soleField "LeaningMarket" "shortest") ∈ lw_all := lw_g (lw_at lw_m3 223 rfl) rfl
theorem q798 : (Jvm.Cond.laysFinal "LeaningMarket" "LeaningMarket" "can" "[Z") ∈ lw_all := lw_g (lw_at lw_m3 224 rfl) rfl
theorem q799 : (Jvm.Cond.soleField "LeaningMarket" "can") ∈ lw_all := lw_g (lw_at lw_m3 225 rfl) rfl
theorem q800 : (Jvm.Cond.laysFinal "LeaningMarket" "LeaningMarket" "then" "[Z") ∈ lw_all := lw_g (lw_at lw_m3 226 rfl) rfl
theorem q801 : (Jvm.Cond.soleField "LeaningMarket" "then") ∈ lw_all := lw_g (lw_at lw_m3 227 rfl) rfl
theorem q802 : (Jvm.Cond.laysFinal "LeaningMarket" "LeaningMarket" "stood" "[I") ∈ lw_all := lw_g (lw_at lw_m3 228 rfl) rfl
theorem q803 : (Jvm.Cond.soleField "LeaningMarket" "stood") ∈ lw_all := lw_g (lw_at lw_m3 229 rfl) rfl
theorem q804 : (Jvm.Cond.superclass "LeaningMarket" "java/lang/Object") ∈ lw_all := lw_g (lw_at lw_m3 230 rfl) rfl
theorem q807 : (Jvm.Cond.instanceMethod ({ cls := "LeaningMarket", name := "feed", desc := "(IIIII)I" } : Jvm.MethodName)) ∈ lw_all := lw_g (lw_at lw_m3 233 rfl) rfl
theorem q808 : (Jvm.Cond.selects "LeaningMarket" ({ cls := "LeaningMarket", name := "feed", desc := "(IIIII)I" } : Jvm.MethodName) ({ cls := "LeaningMarket", name := "feed", desc := "(IIIII)I" } : Jvm.MethodName)) ∈ lw_all := lw_g (lw_at lw_m3 234 rfl) rfl
theorem q809 : (Jvm.Cond.code ({ cls := "LeaningMarket", name := "feed", desc := "(IIIII)I" } : Jvm.MethodName) prog_1_method_13_code (6 : Nat) (Option.some Jvm.ClassFile.FieldType.int)) ∈ lw_all := lw_g (lw_at lw_m3 235 rfl) rfl
theorem q810 : (Jvm.Cond.methodLink "LeaningMarket" (143 : Nat) ({ cls := "LeaningMarket", name := "put", desc := "(I)V" } : Jvm.MethodName)) ∈ lw_all := lw_g (lw_at lw_m3 236 rfl) rfl
theorem q811 : (Jvm.Cond.privateMethod ({ cls := "LeaningMarket", name := "put", desc := "(I)V" } : Jvm.MethodName)) ∈ lw_tbl := lw_at lw_m3 237 rfl
theorem q812 : (Jvm.Cond.instanceMethod ({ cls := "LeaningMarket", name := "put", desc := "(I)V" } : Jvm.MethodName)) ∈ lw_all := lw_g (lw_at lw_m3 238 rfl) rfl
theorem q813 : (Jvm.Cond.code ({ cls := "LeaningMarket", name := "put", desc := "(I)V" } : Jvm.MethodName) prog_1_method_14_code (3 : Nat) (Option.none : Option Jvm.ClassFile.FieldType)) ∈ lw_all := lw_g (lw_at lw_m3 239 rfl) rfl
theorem q815 : (Jvm.Cond.instanceMethod ({ cls := "LeaningMarket", name := "fault", desc := "()I" } : Jvm.MethodName)) ∈ lw_all := lw_g (lw_at lw_m4 1 rfl) rfl
theorem q816 : (Jvm.Cond.selects "LeaningMarket" ({ cls := "LeaningMarket", name := "fault", desc := "()I" } : Jvm.MethodName) ({ cls := "LeaningMarket", name := "fault", desc := "()I" } : Jvm.MethodName)) ∈ lw_all := lw_g (lw_at lw_m4 2 rfl) rfl
theorem q817 : (Jvm.Cond.code ({ cls := "LeaningMarket", name := "fault", desc := "()I" } : Jvm.MethodName) prog_1_method_20_code (1 : Nat) (Option.some Jvm.ClassFile.FieldType.int)) ∈ lw_all := lw_g (lw_at lw_m4 3 rfl) rfl
theorem q819 : (Jvm.Cond.instanceMethod ({ cls := "LeaningMarket", name := "undo", desc := "()I" } : Jvm.MethodName)) ∈ lw_all := lw_g (lw_at lw_m4 5 rfl) rfl
theorem q820 : (Jvm.Cond.selects "LeaningMarket" ({ cls := "LeaningMarket", name := "undo", desc := "()I" } : Jvm.MethodName) ({ cls := "LeaningMarket", name := "undo", desc := "()I" } : Jvm.MethodName)) ∈ lw_all := lw_g (lw_at lw_m4 6 rfl) rfl
theorem q821 : (Jvm.Cond.code ({ cls := "LeaningMarket", name := "undo", desc := "()I" } : Jvm.MethodName) prog_1_method_21_code (1 : Nat) (Option.some Jvm.ClassFile.FieldType.int)) ∈ lw_all := lw_g (lw_at lw_m4 7 rfl) rfl
theorem q822 : (Jvm.Cond.methodLink "LeaningMarket" (223 : Nat) ({ cls := "LeaningMarket$Market", name := "becomes", desc := "(LLeaningMarket$Market;)LLeaningMarket$Market;" } : Jvm.MethodName)) ∈ lw_all := lw_g (lw_at lw_m4 8 rfl) rfl
theorem q827 : (Jvm.Cond.instanceMethod ({ cls := "LeaningMarket", name := "fat", desc := "()I" } : Jvm.MethodName)) ∈ lw_all := lw_g (lw_at lw_m4 13 rfl) rfl
theorem q828 : (Jvm.Cond.selects "LeaningMarket" ({ cls := "LeaningMarket", name := "fat", desc := "()I" } : Jvm.MethodName) ({ cls := "LeaningMarket", name := "fat", desc := "()I" } : Jvm.MethodName)) ∈ lw_all := lw_g (lw_at lw_m4 14 rfl) rfl
theorem q829 : (Jvm.Cond.code ({ cls := "LeaningMarket", name := "fat", desc := "()I" } : Jvm.MethodName) prog_1_method_38_code (1 : Nat) (Option.some Jvm.ClassFile.FieldType.int)) ∈ lw_all := lw_g (lw_at lw_m4 15 rfl) rfl
theorem q830 : (Jvm.Cond.methodLink "LeaningMarket" (333 : Nat) ({ cls := "LeaningMarket", name := "findRings", desc := "(I)V" } : Jvm.MethodName)) ∈ lw_all := lw_g (lw_at lw_m4 16 rfl) rfl
theorem q831 : (Jvm.Cond.privateMethod ({ cls := "LeaningMarket", name := "findRings", desc := "(I)V" } : Jvm.MethodName)) ∈ lw_tbl := lw_at lw_m4 17 rfl
theorem q832 : (Jvm.Cond.instanceMethod ({ cls := "LeaningMarket", name := "findRings", desc := "(I)V" } : Jvm.MethodName)) ∈ lw_all := lw_g (lw_at lw_m4 18 rfl) rfl
theorem q833 : (Jvm.Cond.code ({ cls := "LeaningMarket", name := "findRings", desc := "(I)V" } : Jvm.MethodName) prog_1_method_34_code (3 : Nat) (Option.none : Option Jvm.ClassFile.FieldType)) ∈ lw_all := lw_g (lw_at lw_m4 19 rfl) rfl
theorem q834 : (Jvm.Cond.methodLink "LeaningMarket" (323 : Nat) ({ cls := "LeaningMarket", name := "nothingYet", desc := "()V" } : Jvm.MethodName)) ∈ lw_all := lw_g (lw_at lw_m4 20 rfl) rfl
theorem q835 : (Jvm.Cond.privateMethod ({ cls := "LeaningMarket", name := "nothingYet", desc := "()V" } : Jvm.MethodName)) ∈ lw_tbl := lw_at lw_m4 21 rfl
theorem q836 : (Jvm.Cond.instanceMethod ({ cls := "LeaningMarket", name := "nothingYet", desc := "()V" } : Jvm.MethodName)) ∈ lw_all := lw_g (lw_at lw_m4 22 rfl) rfl
theorem q837 : (Jvm.Cond.code ({ cls := "LeaningMarket", name := "nothingYet", desc := "()V" } : Jvm.MethodName) prog_1_method_31_code (1 : Nat) (Option.none : Option Jvm.ClassFile.FieldType)) ∈ lw_all := lw_g (lw_at lw_m4 23 rfl) rfl
theorem q838 : (Jvm.Cond.methodLink "LeaningMarket" (319 : Nat) ({ cls := "LeaningMarket", name := "chains", desc := "(IIIIJJI)V" } : Jvm.MethodName)) ∈ lw_all := lw_g (lw_at lw_m4 24 rfl) rfl
theorem q839 : (Jvm.Cond.privateMethod ({ cls := "LeaningMarket", name := "chains", desc := "(IIIIJJI)V" } : Jvm.MethodName)) ∈ lw_tbl := lw_at lw_m4 25 rfl
theorem q840 : (Jvm.Cond.instanceMethod ({ cls := "LeaningMarket", name := "chains", desc := "(IIIIJJI)V" } : Jvm.MethodName)) ∈ lw_all := lw_g (lw_at lw_m4 26 rfl) rfl
theorem q841 : (Jvm.Cond.code ({ cls := "LeaningMarket", name := "chains", desc := "(IIIIJJI)V" } : Jvm.MethodName) prog_1_method_32_code (16 : Nat) (Option.none : Option Jvm.ClassFile.FieldType)) ∈ lw_all := lw_g (lw_at lw_m4 27 rfl) rfl
theorem q842 : (Jvm.Cond.methodLink "LeaningMarket" (192 : Nat) ({ cls := "java/util/ArrayList", name := "size", desc := "()I" } : Jvm.MethodName)) ∈ lw_all := lw_g (lw_at lw_m4 28 rfl) rfl
theorem q843 : (Jvm.Cond.methodLink "LeaningMarket" (198 : Nat) ({ cls := "java/util/ArrayList", name := "get", desc := "(I)Ljava/lang/Object;" } : Jvm.MethodName)) ∈ lw_all := lw_g (lw_at lw_m4 29 rfl) rfl
theorem q844 : (Jvm.Cond.classLink "LeaningMarket" (273 : Nat) "LeaningMarket$Cry") ∈ lw_all := lw_g (lw_at lw_m4 30 rfl) rfl
theorem q845 : (Jvm.Cond.methodLink "LeaningMarket" (315 : Nat) ({ cls := "LeaningMarket", name := "has", desc := "(II)Z" } : Jvm.MethodName)) ∈ lw_all := lw_g (lw_at lw_m4 31 rfl) rfl
theorem q846 : (Jvm.Cond.static ({ cls := "LeaningMarket", name := "has", desc := "(II)Z" } : Jvm.MethodName)) ∈ lw_all := lw_g (lw_at lw_m4 32 rfl) rfl
theorem q847 : (Jvm.Cond.code ({ cls := "LeaningMarket", name := "has", desc := "(II)Z" } : Jvm.MethodName) prog_1_method_12_code (2 : Nat) (Option.some Jvm.ClassFile.FieldType.boolean)) ∈ lw_all := lw_g (lw_at lw_m4 33 rfl) rfl
theorem q849 : (Jvm.Cond.instanceMethod ({ cls := "LeaningMarket", name := "mend", desc := "()I" } : Jvm.MethodName)) ∈ lw_all := lw_g (lw_at lw_m4 35 rfl) rfl
theorem q850 : (Jvm.Cond.selects "LeaningMarket" ({ cls := "LeaningMarket", name := "mend", desc := "()I" } : Jvm.MethodName) ({ cls := "LeaningMarket", name := "mend", desc := "()I" } : Jvm.MethodName)) ∈ lw_all := lw_g (lw_at lw_m4 36 rfl) rfl
theorem q851 : (Jvm.Cond.code ({ cls := "LeaningMarket", name := "mend", desc := "()I" } : Jvm.MethodName) prog_1_method_39_code (3 : Nat) (Option.some Jvm.ClassFile.FieldType.int)) ∈ lw_all := lw_g (lw_at lw_m4 37 rfl) rfl
theorem q852 : (Jvm.Cond.methodLink "LeaningMarket" (336 : Nat) ({ cls := "java/lang/Integer", name := "bitCount", desc := "(I)I" } : Jvm.MethodName)) ∈ lw_all := lw_g (lw_at lw_m4 38 rfl) rfl
theorem q859 : (Jvm.Cond.instanceMethod ({ cls := "LeaningMarket", name := "image", desc := "()I" } : Jvm.MethodName)) ∈ lw_all := lw_g (lw_at lw_m4 45 rfl) rfl
theorem q860 : (Jvm.Cond.selects "LeaningMarket" ({ cls := "LeaningMarket", name := "image", desc := "()I" } : Jvm.MethodName) ({ cls := "LeaningMarket", name := "image", desc := "()I" } : Jvm.MethodName)) ∈ lw_all := lw_g (lw_at lw_m4 46 rfl) rfl
theorem q861 : (Jvm.Cond.code ({ cls := "LeaningMarket", name := "image", desc := "()I" } : Jvm.MethodName) prog_1_method_62_code (2 : Nat) (Option.some Jvm.ClassFile.FieldType.int)) ∈ lw_all := lw_g (lw_at lw_m4 47 rfl) rfl
theorem q862 : (Jvm.Cond.methodLink "LeaningMarket" (180 : Nat) ({ cls := "LeaningMarket", name := "kept", desc := "([LLeaningMarket$Market;ILLeaningMarket$Market;)V" } : Jvm.MethodName)) ∈ lw_all := lw_g (lw_at lw_m4 48 rfl) rfl
theorem q863 : (Jvm.Cond.privateMethod ({ cls := "LeaningMarket", name := "kept", desc := "([LLeaningMarket$Market;ILLeaningMarket$Market;)V" } : Jvm.MethodName)) ∈ lw_tbl := lw_at lw_m4 49 rfl
theorem q864 : (Jvm.Cond.instanceMethod ({ cls := "LeaningMarket", name := "kept", desc := "([LLeaningMarket$Market;ILLeaningMarket$Market;)V" } : Jvm.MethodName)) ∈ lw_all := lw_g (lw_at lw_m4 50 rfl) rfl
theorem q865 : (Jvm.Cond.code ({ cls := "LeaningMarket", name := "kept", desc := "([LLeaningMarket$Market;ILLeaningMarket$Market;)V" } : Jvm.MethodName) prog_1_method_61_code (4 : Nat) (Option.none : Option Jvm.ClassFile.FieldType)) ∈ lw_all := lw_g (lw_at lw_m4 51 rfl) rfl
theorem q867 : (Jvm.Cond.instanceMethod ({ cls := "LeaningMarket", name := "restore", desc := "()I" } : Jvm.MethodName)) ∈ lw_all := lw_g (lw_at lw_m4 53 rfl) rfl
theorem q868 : (Jvm.Cond.selects "LeaningMarket" ({ cls := "LeaningMarket", name := "restore", desc := "()I" } : Jvm.MethodName) ({ cls := "LeaningMarket", name := "restore", desc := "()I" } : Jvm.MethodName)) ∈ lw_all := lw_g (lw_at lw_m4 54 rfl) rfl
theorem q869 : (Jvm.Cond.code ({ cls := "LeaningMarket", name := "restore", desc := "()I" } : Jvm.MethodName) prog_1_method_63_code (2 : Nat) (Option.some Jvm.ClassFile.FieldType.int)) ∈ lw_all := lw_g (lw_at lw_m4 55 rfl) rfl
theorem q871 : (Jvm.Cond.instanceMethod ({ cls := "LeaningMarket", name := "status", desc := "(I)I" } : Jvm.MethodName)) ∈ lw_all := lw_g (lw_at lw_m4 57 rfl) rfl
theorem q872 : (Jvm.Cond.selects "LeaningMarket" ({ cls := "LeaningMarket", name := "status", desc := "(I)I" } : Jvm.MethodName) ({ cls := "LeaningMarket", name := "status", desc := "(I)I" } : Jvm.MethodName)) ∈ lw_all := lw_g (lw_at lw_m4 58 rfl) rfl
theorem q873 : (Jvm.Cond.code ({ cls := "LeaningMarket", name := "status", desc := "(I)I" } : Jvm.MethodName) prog_1_method_64_code (2 : Nat) (Option.some Jvm.ClassFile.FieldType.int)) ∈ lw_all := lw_g (lw_at lw_m4 59 rfl) rfl
theorem q874 : (Jvm.Cond.methodLink "LeaningMarket" (301 : Nat) ({ cls := "LeaningMarket", name := "isPart", desc := "(I)Z" } : Jvm.MethodName)) ∈ lw_all := lw_g (lw_at lw_m4 60 rfl) rfl
theorem q875 : (Jvm.Cond.static ({ cls := "LeaningMarket", name := "isPart", desc := "(I)Z" } : Jvm.MethodName)) ∈ lw_all := lw_g (lw_at lw_m4 61 rfl) rfl
theorem q876 : (Jvm.Cond.code ({ cls := "LeaningMarket", name := "isPart", desc := "(I)Z" } : Jvm.MethodName) prog_1_method_10_code (1 : Nat) (Option.some Jvm.ClassFile.FieldType.boolean)) ∈ lw_all := lw_g (lw_at lw_m4 62 rfl) rfl
theorem q878 : (Jvm.Cond.instanceMethod ({ cls := "LeaningMarket", name := "count", desc := "(I)I" } : Jvm.MethodName)) ∈ lw_all := lw_g (lw_at lw_m4 64 rfl) rfl
theorem q879 : (Jvm.Cond.selects "LeaningMarket" ({ cls := "LeaningMarket", name := "count", desc := "(I)I" } : Jvm.MethodName) ({ cls := "LeaningMarket", name := "count", desc := "(I)I" } : Jvm.MethodName)) ∈ lw_all := lw_g (lw_at lw_m4 65 rfl) rfl
theorem q880 : (Jvm.Cond.code ({ cls := "LeaningMarket", name := "count", desc := "(I)I" } : Jvm.MethodName) prog_1_method_65_code (2 : Nat) (Option.some Jvm.ClassFile.FieldType.int)) ∈ lw_all := lw_g (lw_at lw_m4 66 rfl) rfl
theorem q886 : (Jvm.Cond.instanceMethod ({ cls := "LeaningMarket", name := "market", desc := "(I)I" } : Jvm.MethodName)) ∈ lw_all := lw_g (lw_at lw_m4 72 rfl) rfl
theorem q887 : (Jvm.Cond.selects "LeaningMarket" ({ cls := "LeaningMarket", name := "market", desc := "(I)I" } : Jvm.MethodName) ({ cls := "LeaningMarket", name := "market", desc := "(I)I" } : Jvm.MethodName)) ∈ lw_all := lw_g (lw_at lw_m4 73 rfl) rfl
theorem q888 : (Jvm.Cond.codeWith ({ cls := "LeaningMarket", name := "market", desc := "(I)I" } : Jvm.MethodName) prog_1_method_16_code (5 : Nat) (Option.some Jvm.ClassFile.FieldType.int) [((21 : Nat), (57 : Nat), (64 : Nat), (147 : Nat)), ((21 : Nat), (57 : Nat), (78 : Nat), (0 : Nat)), ((64 : Nat), (71 : Nat), (78 : Nat), (0 : Nat)), ((78 : Nat), (80 : Nat), (78 : Nat), (0 : Nat))]) ∈ lw_all := lw_g (lw_at lw_m4 74 rfl) rfl
theorem q889 : (Jvm.Cond.classLink "LeaningMarket" (147 : Nat) "LeaningMarket$Wrong") ∈ lw_all := lw_g (lw_at lw_m4 75 rfl) rfl
theorem q890 : (Jvm.Cond.methodLink "LeaningMarket" (136 : Nat) ({ cls := "LeaningMarket", name := "need", desc := "(Z)V" } : Jvm.MethodName)) ∈ lw_all := lw_g (lw_at lw_m4 76 rfl) rfl
theorem q891 : (Jvm.Cond.privateMethod ({ cls := "LeaningMarket", name := "need", desc := "(Z)V" } : Jvm.MethodName)) ∈ lw_tbl := lw_at lw_m4 77 rfl
theorem q892 : (Jvm.Cond.instanceMethod ({ cls := "LeaningMarket", name := "need", desc := "(Z)V" } : Jvm.MethodName)) ∈ lw_all := lw_g (lw_at lw_m4 78 rfl) rfl
theorem q893 : (Jvm.Cond.code ({ cls := "LeaningMarket", name := "need", desc := "(Z)V" } : Jvm.MethodName) prog_1_method_6_code (2 : Nat) (Option.none : Option Jvm.ClassFile.FieldType)) ∈ lw_all := lw_g (lw_at lw_m4 79 rfl) rfl
theorem q894 : (Jvm.Cond.classLink "LeaningMarket" (123 : Nat) "java/lang/IllegalArgumentException") ∈ lw_all := lw_g (lw_at lw_m4 80 rfl) rfl
theorem q895 : (Jvm.Cond.methodLink "LeaningMarket" (125 : Nat) ({ cls := "java/lang/IllegalArgumentException", name := "<init>", desc := "()V" } : Jvm.MethodName)) ∈ lw_all := lw_g (lw_at lw_m4 81 rfl) rfl
theorem q905 : (Jvm.Cond.classLink "LeaningMarket" (154 : Nat) "LeaningMarket$MarketReader") ∈ lw_all := lw_g (lw_at lw_m4 91 rfl) rfl
theorem q907 : (Jvm.Cond.methodLink "LeaningMarket" (156 : Nat) ({ cls := "LeaningMarket$MarketReader", name := "<init>", desc := "([BI)V" } : Jvm.MethodName)) ∈ lw_all := lw_g (lw_at lw_m4 93 rfl) rfl
theorem q962 : (Jvm.Cond.methodLink "LeaningMarket" (159 : Nat) ({ cls := "LeaningMarket$MarketReader", name := "reads", desc := "()LLeaningMarket$Told;" } : Jvm.MethodName)) ∈ lw_all := lw_g (lw_at lw_m4 148 rfl) rfl
theorem q1104 : (Jvm.Cond.fieldLinkNest "LeaningMarket" (151 : Nat) "LeaningMarket$Wrong" "kind" "I" "LeaningMarket") ∈ lw_tbl := lw_at lw_m5 50 rfl
theorem q1106 : (Jvm.Cond.fieldLinkNest "LeaningMarket" (146 : Nat) "LeaningMarket$Wrong" "place" "I" "LeaningMarket") ∈ lw_tbl := lw_at lw_m5 52 rfl
theorem q1159 : (Jvm.Cond.fieldLinkNest "LeaningMarket" (275 : Nat) "LeaningMarket$Cry" "a" "I" "LeaningMarket") ∈ lw_tbl := lw_at lw_m5 105 rfl
theorem q1163 : (Jvm.Cond.fieldLinkNest "LeaningMarket" (278 : Nat) "LeaningMarket$Cry" "n" "I" "LeaningMarket") ∈ lw_tbl := lw_at lw_m5 109 rfl
theorem q1167 : (Jvm.Cond.fieldLinkNest "LeaningMarket" (281 : Nat) "LeaningMarket$Cry" "b" "I" "LeaningMarket") ∈ lw_tbl := lw_at lw_m5 113 rfl
theorem q1171 : (Jvm.Cond.fieldLinkNest "LeaningMarket" (284 : Nat) "LeaningMarket$Cry" "m" "I" "LeaningMarket") ∈ lw_tbl := lw_at lw_m5 117 rfl
theorem q1188 : (Jvm.Cond.methodLink "LeaningMarket" (163 : Nat) ({ cls := "LeaningMarket", name := "failed", desc := "(LLeaningMarket$Wrong;)I" } : Jvm.MethodName)) ∈ lw_all := lw_g (lw_at lw_m5 134 rfl) rfl
theorem q1189 : (Jvm.Cond.privateMethod ({ cls := "LeaningMarket", name := "failed", desc := "(LLeaningMarket$Wrong;)I" } : Jvm.MethodName)) ∈ lw_tbl := lw_at lw_m5 135 rfl
theorem q1190 : (Jvm.Cond.instanceMethod ({ cls := "LeaningMarket", name := "failed", desc := "(LLeaningMarket$Wrong;)I" } : Jvm.MethodName)) ∈ lw_all := lw_g (lw_at lw_m5 136 rfl) rfl
theorem q1191 : (Jvm.Cond.code ({ cls := "LeaningMarket", name := "failed", desc := "(LLeaningMarket$Wrong;)I" } : Jvm.MethodName) prog_1_method_15_code (2 : Nat) (Option.some Jvm.ClassFile.FieldType.int)) ∈ lw_all := lw_g (lw_at lw_m5 137 rfl) rfl
theorem q1196 : (Jvm.Cond.instanceMethod ({ cls := "LeaningMarket", name := "law", desc := "(I)I" } : Jvm.MethodName)) ∈ lw_all := lw_g (lw_at lw_m5 142 rfl) rfl
theorem q1197 : (Jvm.Cond.selects "LeaningMarket" ({ cls := "LeaningMarket", name := "law", desc := "(I)I" } : Jvm.MethodName) ({ cls := "LeaningMarket", name := "law", desc := "(I)I" } : Jvm.MethodName)) ∈ lw_all := lw_g (lw_at lw_m5 143 rfl) rfl
theorem q1198 : (Jvm.Cond.codeWith ({ cls := "LeaningMarket", name := "law", desc := "(I)I" } : Jvm.MethodName) prog_1_method_17_code (5 : Nat) (Option.some Jvm.ClassFile.FieldType.int) [((28 : Nat), (54 : Nat), (61 : Nat), (147 : Nat)), ((28 : Nat), (54 : Nat), (75 : Nat), (0 : Nat)), ((61 : Nat), (68 : Nat), (75 : Nat), (0 : Nat)), ((75 : Nat), (77 : Nat), (75 : Nat), (0 : Nat))]) ∈ lw_all := lw_g (lw_at lw_m5 144 rfl) rfl
theorem q1199 : (Jvm.Cond.classLink "LeaningMarket" (167 : Nat) "LeaningMarket$LawReader") ∈ lw_all := lw_g (lw_at lw_m5 145 rfl) rfl
theorem q1201 : (Jvm.Cond.methodLink "LeaningMarket" (169 : Nat) ({ cls := "LeaningMarket$LawReader", name := "<init>", desc := "([BI)V" } : Jvm.MethodName)) ∈ lw_all := lw_g (lw_at lw_m5 147 rfl) rfl
theorem q1211 : (Jvm.Cond.methodLink "LeaningMarket" (170 : Nat) ({ cls := "LeaningMarket$LawReader", name := "reads", desc := "()LLeaningMarket$Term;" } : Jvm.MethodName)) ∈ lw_all := lw_g (lw_at lw_m5 157 rfl) rfl
theorem q1332 : (Jvm.Cond.instanceMethod ({ cls := "LeaningMarket", name := "work", desc := "(I)I" } : Jvm.MethodName)) ∈ lw_all := lw_g (lw_at lw_m6 38 rfl) rfl
theorem q1333 : (Jvm.Cond.selects "LeaningMarket" ({ cls := "LeaningMarket", name := "work", desc := "(I)I" } : Jvm.MethodName) ({ cls := "LeaningMarket", name := "work", desc := "(I)I" } : Jvm.MethodName)) ∈ lw_all := lw_g (lw_at lw_m6 39 rfl) rfl
theorem q1334 : (Jvm.Cond.codeWith ({ cls := "LeaningMarket", name := "work", desc := "(I)I" } : Jvm.MethodName) prog_1_method_18_code (5 : Nat) (Option.some Jvm.ClassFile.FieldType.int) [((28 : Nat), (45 : Nat), (182 : Nat), (147 : Nat)), ((52 : Nat), (175 : Nat), (182 : Nat), (147 : Nat)), ((28 : Nat), (45 : Nat), (196 : Nat), (0 : Nat)), ((52 : Nat), (175 : Nat), (196 : Nat), (0 : Nat)), ((182 : Nat), (189 : Nat), (196 : Nat), (0 : Nat)), ((196 : Nat), (198 : Nat), (196 : Nat), (0 : Nat))]) ∈ lw_all := lw_g (lw_at lw_m6 40 rfl) rfl
theorem q1335 : (Jvm.Cond.classLink "LeaningMarket" (172 : Nat) "LeaningMarket$WorkReader") ∈ lw_all := lw_g (lw_at lw_m6 41 rfl) rfl
theorem q1337 : (Jvm.Cond.methodLink "LeaningMarket" (174 : Nat) ({ cls := "LeaningMarket$WorkReader", name := "<init>", desc := "([BII)V" } : Jvm.MethodName)) ∈ lw_all := lw_g (lw_at lw_m6 43 rfl) rfl
theorem q1350 : (Jvm.Cond.methodLink "LeaningMarket" (177 : Nat) ({ cls := "LeaningMarket$WorkReader", name := "reads", desc := "()Ljava/util/ArrayList;" } : Jvm.MethodName)) ∈ lw_all := lw_g (lw_at lw_m6 56 rfl) rfl
theorem q1468 : (Jvm.Cond.classLink "LeaningMarket" (202 : Nat) "LeaningMarket$Step") ∈ lw_all := lw_g (lw_at lw_m6 174 rfl) rfl
theorem q1469 : (Jvm.Cond.methodLink "LeaningMarket" (204 : Nat) ({ cls := "LeaningMarket$Step", name := "goes", desc := "(LLeaningMarket$Market;)V" } : Jvm.MethodName)) ∈ lw_all := lw_g (lw_at lw_m6 175 rfl) rfl
theorem q1523 : (Jvm.Cond.privateMethod ({ cls := "LeaningMarket", name := "wearBy", desc := "(IIIIIII)I" } : Jvm.MethodName)) ∈ lw_tbl := lw_at lw_m6 229 rfl
theorem q1524 : (Jvm.Cond.instanceMethod ({ cls := "LeaningMarket", name := "wearBy", desc := "(IIIIIII)I" } : Jvm.MethodName)) ∈ lw_all := lw_g (lw_at lw_m6 230 rfl) rfl
theorem q1525 : (Jvm.Cond.code ({ cls := "LeaningMarket", name := "wearBy", desc := "(IIIIIII)I" } : Jvm.MethodName) prog_1_method_5_code (8 : Nat) (Option.some Jvm.ClassFile.FieldType.int)) ∈ lw_all := lw_g (lw_at lw_m6 231 rfl) rfl
theorem q1526 : (Jvm.Cond.methodLink "LeaningMarket" (108 : Nat) ({ cls := "LeaningMarket$Term", name := "of", desc := "([I)I" } : Jvm.MethodName)) ∈ lw_all := lw_g (lw_at lw_m6 232 rfl) rfl
theorem q1571 : (Jvm.Cond.methodLink "LeaningMarket" (114 : Nat) ({ cls := "java/lang/Math", name := "min", desc := "(II)I" } : Jvm.MethodName)) ∈ lw_all := lw_g (lw_at lw_m7 37 rfl) rfl
theorem q1572 : (Jvm.Cond.methodLink "LeaningMarket" (120 : Nat) ({ cls := "java/lang/Math", name := "max", desc := "(II)I" } : Jvm.MethodName)) ∈ lw_all := lw_g (lw_at lw_m7 38 rfl) rfl
theorem q1609 : (Jvm.Cond.static ({ cls := "LeaningMarket", name := "standsBy", desc := "(III)I" } : Jvm.MethodName)) ∈ lw_all := lw_g (lw_at lw_m7 75 rfl) rfl
theorem q1610 : (Jvm.Cond.code ({ cls := "LeaningMarket", name := "standsBy", desc := "(III)I" } : Jvm.MethodName) prog_1_method_4_code (4 : Nat) (Option.some Jvm.ClassFile.FieldType.int)) ∈ lw_all := lw_g (lw_at lw_m7 76 rfl) rfl
theorem q1629 : (Jvm.Cond.instanceMethod ({ cls := "LeaningMarket", name := "book", desc := "(I)I" } : Jvm.MethodName)) ∈ lw_all := lw_g (lw_at lw_m7 95 rfl) rfl
theorem q1630 : (Jvm.Cond.selects "LeaningMarket" ({ cls := "LeaningMarket", name := "book", desc := "(I)I" } : Jvm.MethodName) ({ cls := "LeaningMarket", name := "book", desc := "(I)I" } : Jvm.MethodName)) ∈ lw_all := lw_g (lw_at lw_m7 96 rfl) rfl
theorem q1631 : (Jvm.Cond.codeWith ({ cls := "LeaningMarket", name := "book", desc := "(I)I" } : Jvm.MethodName) prog_1_method_19_code (5 : Nat) (Option.some Jvm.ClassFile.FieldType.int) [((27 : Nat), (80 : Nat), (87 : Nat), (147 : Nat)), ((27 : Nat), (80 : Nat), (101 : Nat), (0 : Nat)), ((87 : Nat), (94 : Nat), (101 : Nat), (0 : Nat)), ((101 : Nat), (103 : Nat), (101 : Nat), (0 : Nat))]) ∈ lw_all := lw_g (lw_at lw_m7 97 rfl) rfl
theorem q1632 : (Jvm.Cond.classLink "LeaningMarket" (208 : Nat) "LeaningMarket$BookReader") ∈ lw_all := lw_g (lw_at lw_m7 98 rfl) rfl
theorem q1634 : (Jvm.Cond.methodLink "LeaningMarket" (210 : Nat) ({ cls := "LeaningMarket$BookReader", name := "<init>", desc := "([BII)V" } : Jvm.MethodName)) ∈ lw_all := lw_g (lw_at lw_m7 100 rfl) rfl
theorem q1641 : (Jvm.Cond.fieldLinkNest "LeaningMarket" (220 : Nat) "LeaningMarket$BookReader" "many" "I" "LeaningMarket") ∈ lw_tbl := lw_at lw_m7 107 rfl
theorem q1654 : (Jvm.Cond.methodLink "LeaningMarket" (211 : Nat) ({ cls := "LeaningMarket$BookReader", name := "reads", desc := "()[I" } : Jvm.MethodName)) ∈ lw_all := lw_g (lw_at lw_m7 120 rfl) rfl
theorem q1673 : (Jvm.Cond.methodLink "LeaningMarket" (214 : Nat) ({ cls := "java/lang/System", name := "arraycopy", desc := "(Ljava/lang/Object;ILjava/lang/Object;II)V" } : Jvm.MethodName)) ∈ lw_all := lw_g (lw_at lw_m7 139 rfl) rfl
theorem q1678 : (Jvm.Cond.instanceMethod ({ cls := "LeaningMarket", name := "told", desc := "(I)I" } : Jvm.MethodName)) ∈ lw_all := lw_g (lw_at lw_m7 144 rfl) rfl
theorem q1679 : (Jvm.Cond.selects "LeaningMarket" ({ cls := "LeaningMarket", name := "told", desc := "(I)I" } : Jvm.MethodName) ({ cls := "LeaningMarket", name := "told", desc := "(I)I" } : Jvm.MethodName)) ∈ lw_all := lw_g (lw_at lw_m7 145 rfl) rfl
theorem q1680 : (Jvm.Cond.code ({ cls := "LeaningMarket", name := "told", desc := "(I)I" } : Jvm.MethodName) prog_1_method_22_code (2 : Nat) (Option.some Jvm.ClassFile.FieldType.int)) ∈ lw_all := lw_g (lw_at lw_m7 146 rfl) rfl
theorem q1681 : (Jvm.Cond.methodLink "LeaningMarket" (227 : Nat) ({ cls := "LeaningMarket", name := "isIn", desc := "(III)Z" } : Jvm.MethodName)) ∈ lw_all := lw_g (lw_at lw_m7 147 rfl) rfl
theorem q1682 : (Jvm.Cond.static ({ cls := "LeaningMarket", name := "isIn", desc := "(III)Z" } : Jvm.MethodName)) ∈ lw_all := lw_g (lw_at lw_m7 148 rfl) rfl
theorem q1683 : (Jvm.Cond.code ({ cls := "LeaningMarket", name := "isIn", desc := "(III)Z" } : Jvm.MethodName) prog_1_method_11_code (3 : Nat) (Option.some Jvm.ClassFile.FieldType.boolean)) ∈ lw_all := lw_g (lw_at lw_m7 149 rfl) rfl
theorem q1684 : (Jvm.Cond.methodLink "LeaningMarket" (244 : Nat) ({ cls := "LeaningMarket$Market", name := "all", desc := "()I" } : Jvm.MethodName)) ∈ lw_all := lw_g (lw_at lw_m7 150 rfl) rfl
theorem q1688 : (Jvm.Cond.methodLink "LeaningMarket" (247 : Nat) ({ cls := "LeaningMarket$Market", name := "notSo", desc := "()I" } : Jvm.MethodName)) ∈ lw_all := lw_g (lw_at lw_m7 154 rfl) rfl
theorem q1696 : (Jvm.Cond.methodLink "LeaningMarket" (250 : Nat) ({ cls := "LeaningMarket$Market", name := "inCries", desc := "()I" } : Jvm.MethodName)) ∈ lw_all := lw_g (lw_at lw_m7 162 rfl) rfl
theorem q1705 : (Jvm.Cond.instanceMethod ({ cls := "LeaningMarket", name := "thing", desc := "(II)I" } : Jvm.MethodName)) ∈ lw_all := lw_g (lw_at lw_m7 171 rfl) rfl
theorem q1706 : (Jvm.Cond.selects "LeaningMarket" ({ cls := "LeaningMarket", name := "thing", desc := "(II)I" } : Jvm.MethodName) ({ cls := "LeaningMarket", name := "thing", desc := "(II)I" } : Jvm.MethodName)) ∈ lw_all := lw_g (lw_at lw_m7 172 rfl) rfl
theorem q1707 : (Jvm.Cond.code ({ cls := "LeaningMarket", name := "thing", desc := "(II)I" } : Jvm.MethodName) prog_1_method_23_code (3 : Nat) (Option.some Jvm.ClassFile.FieldType.int)) ∈ lw_all := lw_g (lw_at lw_m7 173 rfl) rfl
theorem q1708 : (Jvm.Cond.methodLink "LeaningMarket" (256 : Nat) ({ cls := "LeaningMarket", name := "needThing", desc := "(I)V" } : Jvm.MethodName)) ∈ lw_all := lw_g (lw_at lw_m7 174 rfl) rfl
theorem q1709 : (Jvm.Cond.privateMethod ({ cls := "LeaningMarket", name := "needThing", desc := "(I)V" } : Jvm.MethodName)) ∈ lw_tbl := lw_at lw_m7 175 rfl
theorem q1710 : (Jvm.Cond.instanceMethod ({ cls := "LeaningMarket", name := "needThing", desc := "(I)V" } : Jvm.MethodName)) ∈ lw_all := lw_g (lw_at lw_m7 176 rfl) rfl
theorem q1711 : (Jvm.Cond.code ({ cls := "LeaningMarket", name := "needThing", desc := "(I)V" } : Jvm.MethodName) prog_1_method_8_code (2 : Nat) (Option.none : Option Jvm.ClassFile.FieldType)) ∈ lw_all := lw_g (lw_at lw_m7 177 rfl) rfl
theorem q1712 : (Jvm.Cond.methodLink "LeaningMarket" (132 : Nat) ({ cls := "LeaningMarket", name := "needThere", desc := "(II)V" } : Jvm.MethodName)) ∈ lw_all := lw_g (lw_at lw_m7 178 rfl) rfl
theorem q1713 : (Jvm.Cond.privateMethod ({ cls := "LeaningMarket", name := "needThere", desc := "(II)V" } : Jvm.MethodName)) ∈ lw_tbl := lw_at lw_m7 179 rfl
theorem q1714 : (Jvm.Cond.instanceMethod ({ cls := "LeaningMarket", name := "needThere", desc := "(II)V" } : Jvm.MethodName)) ∈ lw_all := lw_g (lw_at lw_m7 180 rfl) rfl
theorem q1715 : (Jvm.Cond.code ({ cls := "LeaningMarket", name := "needThere", desc := "(II)V" } : Jvm.MethodName) prog_1_method_7_code (3 : Nat) (Option.none : Option Jvm.ClassFile.FieldType)) ∈ lw_all := lw_g (lw_at lw_m7 181 rfl) rfl
theorem q1716 : (Jvm.Cond.classLink "LeaningMarket" (126 : Nat) "java/util/NoSuchElementException") ∈ lw_all := lw_g (lw_at lw_m7 182 rfl) rfl
theorem q1725 : (Jvm.Cond.methodLink "LeaningMarket" (128 : Nat) ({ cls := "java/util/NoSuchElementException", name := "<init>", desc := "()V" } : Jvm.MethodName)) ∈ lw_all := lw_g (lw_at lw_m7 191 rfl) rfl
theorem q1731 : (Jvm.Cond.methodLink "LeaningMarket" (266 : Nat) ({ cls := "LeaningMarket$Market", name := "criesOf", desc := "(I)I" } : Jvm.MethodName)) ∈ lw_all := lw_g (lw_at lw_m7 197 rfl) rfl
theorem q1732 : (Jvm.Cond.methodLink "LeaningMarket" (270 : Nat) ({ cls := "LeaningMarket$Market", name := "wear", desc := "(I)I" } : Jvm.MethodName)) ∈ lw_all := lw_g (lw_at lw_m7 198 rfl) rfl
theorem q1737 : (Jvm.Cond.instanceMethod ({ cls := "LeaningMarket", name := "cry", desc := "(II)I" } : Jvm.MethodName)) ∈ lw_all := lw_g (lw_at lw_m7 203 rfl) rfl
theorem q1738 : (Jvm.Cond.selects "LeaningMarket" ({ cls := "LeaningMarket", name := "cry", desc := "(II)I" } : Jvm.MethodName) ({ cls := "LeaningMarket", name := "cry", desc := "(II)I" } : Jvm.MethodName)) ∈ lw_all := lw_g (lw_at lw_m7 204 rfl) rfl
theorem q1739 : (Jvm.Cond.code ({ cls := "LeaningMarket", name := "cry", desc := "(II)I" } : Jvm.MethodName) prog_1_method_24_code (4 : Nat) (Option.some Jvm.ClassFile.FieldType.int)) ∈ lw_all := lw_g (lw_at lw_m7 205 rfl) rfl
theorem q1744 : (Jvm.Cond.instanceMethod ({ cls := "LeaningMarket", name := "stands", desc := "(IIII)I" } : Jvm.MethodName)) ∈ lw_all := lw_g (lw_at lw_m7 210 rfl) rfl
theorem q1745 : (Jvm.Cond.selects "LeaningMarket" ({ cls := "LeaningMarket", name := "stands", desc := "(IIII)I" } : Jvm.MethodName) ({ cls := "LeaningMarket", name := "stands", desc := "(IIII)I" } : Jvm.MethodName)) ∈ lw_all := lw_g (lw_at lw_m7 211 rfl) rfl
theorem q1746 : (Jvm.Cond.code ({ cls := "LeaningMarket", name := "stands", desc := "(IIII)I" } : Jvm.MethodName) prog_1_method_25_code (5 : Nat) (Option.some Jvm.ClassFile.FieldType.int)) ∈ lw_all := lw_g (lw_at lw_m7 212 rfl) rfl
theorem q1747 : (Jvm.Cond.methodLink "LeaningMarket" (287 : Nat) ({ cls := "LeaningMarket$Market", name := "stands", desc := "(IIII)I" } : Jvm.MethodName)) ∈ lw_all := lw_g (lw_at lw_m7 213 rfl) rfl
theorem q1752 : (Jvm.Cond.instanceMethod ({ cls := "LeaningMarket", name := "would", desc := "(IIIIIII)I" } : Jvm.MethodName)) ∈ lw_all := lw_g (lw_at lw_m7 218 rfl) rfl
theorem q1753 : (Jvm.Cond.selects "LeaningMarket" ({ cls := "LeaningMarket", name := "would", desc := "(IIIIIII)I" } : Jvm.MethodName) ({ cls := "LeaningMarket", name := "would", desc := "(IIIIIII)I" } : Jvm.MethodName)) ∈ lw_all := lw_g (lw_at lw_m7 219 rfl) rfl
theorem q1754 : (Jvm.Cond.code ({ cls := "LeaningMarket", name := "would", desc := "(IIIIIII)I" } : Jvm.MethodName) prog_1_method_26_code (8 : Nat) (Option.some Jvm.ClassFile.FieldType.int)) ∈ lw_all := lw_g (lw_at lw_m7 220 rfl) rfl
theorem q1755 : (Jvm.Cond.methodLink "LeaningMarket" (291 : Nat) ({ cls := "LeaningMarket", name := "wearBy", desc := "(IIIIIII)I" } : Jvm.MethodName)) ∈ lw_all := lw_g (lw_at lw_m7 221 rfl) rfl
theorem q1760 : (Jvm.Cond.instanceMethod ({ cls := "LeaningMarket", name := "ahead", desc := "(II)I" } : Jvm.MethodName)) ∈ lw_all := lw_g (lw_at lw_m7 226 rfl) rfl
theorem q1761 : (Jvm.Cond.selects "LeaningMarket" ({ cls := "LeaningMarket", name := "ahead", desc := "(II)I" } : Jvm.MethodName) ({ cls := "LeaningMarket", name := "ahead", desc := "(II)I" } : Jvm.MethodName)) ∈ lw_all := lw_g (lw_at lw_m7 227 rfl) rfl
theorem q1762 : (Jvm.Cond.code ({ cls := "LeaningMarket", name := "ahead", desc := "(II)I" } : Jvm.MethodName) prog_1_method_27_code (5 : Nat) (Option.some Jvm.ClassFile.FieldType.int)) ∈ lw_all := lw_g (lw_at lw_m7 228 rfl) rfl
theorem q1763 : (Jvm.Cond.methodLink "LeaningMarket" (295 : Nat) ({ cls := "LeaningMarket$Market", name := "passes", desc := "()V" } : Jvm.MethodName)) ∈ lw_all := lw_g (lw_at lw_m7 229 rfl) rfl
theorem q1764 : (Jvm.Cond.methodLink "LeaningMarket" (298 : Nat) ({ cls := "LeaningMarket$Market", name := "heaviest", desc := "()I" } : Jvm.MethodName)) ∈ lw_all := lw_g (lw_at lw_m7 230 rfl) rfl
theorem q1772 : (Jvm.Cond.instanceMethod ({ cls := "LeaningMarket", name := "worth", desc := "(III)J" } : Jvm.MethodName)) ∈ lw_all := lw_g (lw_at lw_m7 238 rfl) rfl
theorem q1773 : (Jvm.Cond.selects "LeaningMarket" ({ cls := "LeaningMarket", name := "worth", desc := "(III)J" } : Jvm.MethodName) ({ cls := "LeaningMarket", name := "worth", desc := "(III)J" } : Jvm.MethodName)) ∈ lw_all := lw_g (lw_at lw_m7 239 rfl) rfl
theorem q1774 : (Jvm.Cond.code ({ cls := "LeaningMarket", name := "worth", desc := "(III)J" } : Jvm.MethodName) prog_1_method_36_code (4 : Nat) (Option.some Jvm.ClassFile.FieldType.long)) ∈ lw_all := lw_g (lw_at lw_m8 0 rfl) rfl
theorem q1775 : (Jvm.Cond.methodLink "LeaningMarket" (326 : Nat) ({ cls := "LeaningMarket", name := "findChain", desc := "(II)V" } : Jvm.MethodName)) ∈ lw_all := lw_g (lw_at lw_m8 1 rfl) rfl
theorem q1776 : (Jvm.Cond.privateMethod ({ cls := "LeaningMarket", name := "findChain", desc := "(II)V" } : Jvm.MethodName)) ∈ lw_tbl := lw_at lw_m8 2 rfl
theorem q1777 : (Jvm.Cond.instanceMethod ({ cls := "LeaningMarket", name := "findChain", desc := "(II)V" } : Jvm.MethodName)) ∈ lw_all := lw_g (lw_at lw_m8 3 rfl) rfl
theorem q1778 : (Jvm.Cond.code ({ cls := "LeaningMarket", name := "findChain", desc := "(II)V" } : Jvm.MethodName) prog_1_method_33_code (3 : Nat) (Option.none : Option Jvm.ClassFile.FieldType)) ∈ lw_all := lw_g (lw_at lw_m8 4 rfl) rfl
theorem q1779 : (Jvm.Cond.methodLink "LeaningMarket" (329 : Nat) ({ cls := "LeaningMarket", name := "least", desc := "(JJI)J" } : Jvm.MethodName)) ∈ lw_all := lw_g (lw_at lw_m8 5 rfl) rfl
theorem q1780 : (Jvm.Cond.static ({ cls := "LeaningMarket", name := "least", desc := "(JJI)J" } : Jvm.MethodName)) ∈ lw_all := lw_g (lw_at lw_m8 6 rfl) rfl
theorem q1781 : (Jvm.Cond.code ({ cls := "LeaningMarket", name := "least", desc := "(JJI)J" } : Jvm.MethodName) prog_1_method_35_code (11 : Nat) (Option.some Jvm.ClassFile.FieldType.long)) ∈ lw_all := lw_g (lw_at lw_m8 7 rfl) rfl
theorem q1786 : (Jvm.Cond.instanceMethod ({ cls := "LeaningMarket", name := "fattest", desc := "(I)J" } : Jvm.MethodName)) ∈ lw_all := lw_g (lw_at lw_m8 12 rfl) rfl
theorem q1787 : (Jvm.Cond.selects "LeaningMarket" ({ cls := "LeaningMarket", name := "fattest", desc := "(I)J" } : Jvm.MethodName) ({ cls := "LeaningMarket", name := "fattest", desc := "(I)J" } : Jvm.MethodName)) ∈ lw_all := lw_g (lw_at lw_m8 13 rfl) rfl
theorem q1788 : (Jvm.Cond.code ({ cls := "LeaningMarket", name := "fattest", desc := "(I)J" } : Jvm.MethodName) prog_1_method_37_code (2 : Nat) (Option.some Jvm.ClassFile.FieldType.long)) ∈ lw_all := lw_g (lw_at lw_m8 14 rfl) rfl
theorem q1793 : (Jvm.Cond.instanceMethod ({ cls := "LeaningMarket", name := "match", desc := "(II)I" } : Jvm.MethodName)) ∈ lw_all := lw_g (lw_at lw_m8 19 rfl) rfl
theorem q1794 : (Jvm.Cond.selects "LeaningMarket" ({ cls := "LeaningMarket", name := "match", desc := "(II)I" } : Jvm.MethodName) ({ cls := "LeaningMarket", name := "match", desc := "(II)I" } : Jvm.MethodName)) ∈ lw_all := lw_g (lw_at lw_m8 20 rfl) rfl
theorem q1795 : (Jvm.Cond.code ({ cls := "LeaningMarket", name := "match", desc := "(II)I" } : Jvm.MethodName) prog_1_method_42_code (6 : Nat) (Option.some Jvm.ClassFile.FieldType.int)) ∈ lw_all := lw_g (lw_at lw_m8 21 rfl) rfl
theorem q1796 : (Jvm.Cond.methodLink "LeaningMarket" (341 : Nat) ({ cls := "LeaningMarket", name := "needSet", desc := "(I)V" } : Jvm.MethodName)) ∈ lw_all := lw_g (lw_at lw_m8 22 rfl) rfl
theorem q1797 : (Jvm.Cond.privateMethod ({ cls := "LeaningMarket", name := "needSet", desc := "(I)V" } : Jvm.MethodName)) ∈ lw_tbl := lw_at lw_m8 23 rfl
theorem q1798 : (Jvm.Cond.instanceMethod ({ cls := "LeaningMarket", name := "needSet", desc := "(I)V" } : Jvm.MethodName)) ∈ lw_all := lw_g (lw_at lw_m8 24 rfl) rfl
theorem q1799 : (Jvm.Cond.code ({ cls := "LeaningMarket", name := "needSet", desc := "(I)V" } : Jvm.MethodName) prog_1_method_9_code (2 : Nat) (Option.none : Option Jvm.ClassFile.FieldType)) ∈ lw_all := lw_g (lw_at lw_m8 25 rfl) rfl
theorem q1800 : (Jvm.Cond.methodLink "LeaningMarket" (344 : Nat) ({ cls := "LeaningMarket", name := "layMatch", desc := "(I)V" } : Jvm.MethodName)) ∈ lw_all := lw_g (lw_at lw_m8 26 rfl) rfl
theorem q1801 : (Jvm.Cond.privateMethod ({ cls := "LeaningMarket", name := "layMatch", desc := "(I)V" } : Jvm.MethodName)) ∈ lw_tbl := lw_at lw_m8 27 rfl
theorem q1802 : (Jvm.Cond.instanceMethod ({ cls := "LeaningMarket", name := "layMatch", desc := "(I)V" } : Jvm.MethodName)) ∈ lw_all := lw_g (lw_at lw_m8 28 rfl) rfl
theorem q1803 : (Jvm.Cond.code ({ cls := "LeaningMarket", name := "layMatch", desc := "(I)V" } : Jvm.MethodName) prog_1_method_41_code (4 : Nat) (Option.none : Option Jvm.ClassFile.FieldType)) ∈ lw_all := lw_g (lw_at lw_m8 29 rfl) rfl
theorem q1808 : (Jvm.Cond.instanceMethod ({ cls := "LeaningMarket", name := "fewest", desc := "(I)I" } : Jvm.MethodName)) ∈ lw_all := lw_g (lw_at lw_m8 34 rfl) rfl
theorem q1809 : (Jvm.Cond.selects "LeaningMarket" ({ cls := "LeaningMarket", name := "fewest", desc := "(I)I" } : Jvm.MethodName) ({ cls := "LeaningMarket", name := "fewest", desc := "(I)I" } : Jvm.MethodName)) ∈ lw_all := lw_g (lw_at lw_m8 35 rfl) rfl
theorem q1810 : (Jvm.Cond.code ({ cls := "LeaningMarket", name := "fewest", desc := "(I)I" } : Jvm.MethodName) prog_1_method_43_code (4 : Nat) (Option.some Jvm.ClassFile.FieldType.int)) ∈ lw_all := lw_g (lw_at lw_m8 36 rfl) rfl
theorem q1815 : (Jvm.Cond.instanceMethod ({ cls := "LeaningMarket", name := "level", desc := "(II)I" } : Jvm.MethodName)) ∈ lw_all := lw_g (lw_at lw_m8 41 rfl) rfl
theorem q1816 : (Jvm.Cond.selects "LeaningMarket" ({ cls := "LeaningMarket", name := "level", desc := "(II)I" } : Jvm.MethodName) ({ cls := "LeaningMarket", name := "level", desc := "(II)I" } : Jvm.MethodName)) ∈ lw_all := lw_g (lw_at lw_m8 42 rfl) rfl
theorem q1817 : (Jvm.Cond.code ({ cls := "LeaningMarket", name := "level", desc := "(II)I" } : Jvm.MethodName) prog_1_method_45_code (9 : Nat) (Option.some Jvm.ClassFile.FieldType.int)) ∈ lw_all := lw_g (lw_at lw_m8 43 rfl) rfl
theorem q1818 : (Jvm.Cond.methodLink "LeaningMarket" (347 : Nat) ({ cls := "LeaningMarket", name := "weightOf", desc := "(I)I" } : Jvm.MethodName)) ∈ lw_all := lw_g (lw_at lw_m8 44 rfl) rfl
theorem q1819 : (Jvm.Cond.privateMethod ({ cls := "LeaningMarket", name := "weightOf", desc := "(I)I" } : Jvm.MethodName)) ∈ lw_tbl := lw_at lw_m8 45 rfl
theorem q1820 : (Jvm.Cond.instanceMethod ({ cls := "LeaningMarket", name := "weightOf", desc := "(I)I" } : Jvm.MethodName)) ∈ lw_all := lw_g (lw_at lw_m8 46 rfl) rfl
theorem q1821 : (Jvm.Cond.code ({ cls := "LeaningMarket", name := "weightOf", desc := "(I)I" } : Jvm.MethodName) prog_1_method_44_code (4 : Nat) (Option.some Jvm.ClassFile.FieldType.int)) ∈ lw_all := lw_g (lw_at lw_m8 47 rfl) rfl
theorem q1822 : (Jvm.Cond.methodLink "LeaningMarket" (350 : Nat) ({ cls := "java/lang/Integer", name := "numberOfTrailingZeros", desc := "(I)I" } : Jvm.MethodName)) ∈ lw_all := lw_g (lw_at lw_m8 48 rfl) rfl
theorem q1826 : (Jvm.Cond.methodLink "LeaningMarket" (353 : Nat) ({ cls := "java/lang/Math", name := "abs", desc := "(I)I" } : Jvm.MethodName)) ∈ lw_all := lw_g (lw_at lw_m8 52 rfl) rfl
theorem q1833 : (Jvm.Cond.instanceMethod ({ cls := "LeaningMarket", name := "fits", desc := "(I)I" } : Jvm.MethodName)) ∈ lw_all := lw_g (lw_at lw_m8 59 rfl) rfl
theorem q1834 : (Jvm.Cond.selects "LeaningMarket" ({ cls := "LeaningMarket", name := "fits", desc := "(I)I" } : Jvm.MethodName) ({ cls := "LeaningMarket", name := "fits", desc := "(I)I" } : Jvm.MethodName)) ∈ lw_all := lw_g (lw_at lw_m8 60 rfl) rfl
theorem q1835 : (Jvm.Cond.code ({ cls := "LeaningMarket", name := "fits", desc := "(I)I" } : Jvm.MethodName) prog_1_method_47_code (6 : Nat) (Option.some Jvm.ClassFile.FieldType.int)) ∈ lw_all := lw_g (lw_at lw_m8 61 rfl) rfl
theorem q1836 : (Jvm.Cond.methodLink "LeaningMarket" (360 : Nat) ({ cls := "LeaningMarket", name := "isFit", desc := "(II)Z" } : Jvm.MethodName)) ∈ lw_all := lw_g (lw_at lw_m8 62 rfl) rfl
theorem q1837 : (Jvm.Cond.privateMethod ({ cls := "LeaningMarket", name := "isFit", desc := "(II)Z" } : Jvm.MethodName)) ∈ lw_tbl := lw_at lw_m8 63 rfl
theorem q1838 : (Jvm.Cond.instanceMethod ({ cls := "LeaningMarket", name := "isFit", desc := "(II)Z" } : Jvm.MethodName)) ∈ lw_all := lw_g (lw_at lw_m8 64 rfl) rfl
theorem q1839 : (Jvm.Cond.code ({ cls := "LeaningMarket", name := "isFit", desc := "(II)Z" } : Jvm.MethodName) prog_1_method_46_code (4 : Nat) (Option.some Jvm.ClassFile.FieldType.boolean)) ∈ lw_all := lw_g (lw_at lw_m8 65 rfl) rfl
theorem q1840 : (Jvm.Cond.methodLink "LeaningMarket" (356 : Nat) ({ cls := "LeaningMarket", name := "standsBy", desc := "(III)I" } : Jvm.MethodName)) ∈ lw_all := lw_g (lw_at lw_m8 66 rfl) rfl
theorem q1845 : (Jvm.Cond.instanceMethod ({ cls := "LeaningMarket", name := "look", desc := "(I)I" } : Jvm.MethodName)) ∈ lw_all := lw_g (lw_at lw_m8 71 rfl) rfl
theorem q1846 : (Jvm.Cond.selects "LeaningMarket" ({ cls := "LeaningMarket", name := "look", desc := "(I)I" } : Jvm.MethodName) ({ cls := "LeaningMarket", name := "look", desc := "(I)I" } : Jvm.MethodName)) ∈ lw_all := lw_g (lw_at lw_m8 72 rfl) rfl
theorem q1847 : (Jvm.Cond.code ({ cls := "LeaningMarket", name := "look", desc := "(I)I" } : Jvm.MethodName) prog_1_method_49_code (7 : Nat) (Option.some Jvm.ClassFile.FieldType.int)) ∈ lw_all := lw_g (lw_at lw_m8 73 rfl) rfl
theorem q1848 : (Jvm.Cond.methodLink "LeaningMarket" (363 : Nat) ({ cls := "LeaningMarket", name := "worstOf", desc := "(II)I" } : Jvm.MethodName)) ∈ lw_all := lw_g (lw_at lw_m8 74 rfl) rfl
theorem q1849 : (Jvm.Cond.privateMethod ({ cls := "LeaningMarket", name := "worstOf", desc := "(II)I" } : Jvm.MethodName)) ∈ lw_tbl := lw_at lw_m8 75 rfl
theorem q1850 : (Jvm.Cond.instanceMethod ({ cls := "LeaningMarket", name := "worstOf", desc := "(II)I" } : Jvm.MethodName)) ∈ lw_all := lw_g (lw_at lw_m8 76 rfl) rfl
theorem q1851 : (Jvm.Cond.code ({ cls := "LeaningMarket", name := "worstOf", desc := "(II)I" } : Jvm.MethodName) prog_1_method_48_code (5 : Nat) (Option.some Jvm.ClassFile.FieldType.int)) ∈ lw_all := lw_g (lw_at lw_m8 77 rfl) rfl
theorem q1856 : (Jvm.Cond.instanceMethod ({ cls := "LeaningMarket", name := "falsely", desc := "(I)I" } : Jvm.MethodName)) ∈ lw_all := lw_g (lw_at lw_m8 82 rfl) rfl
theorem q1857 : (Jvm.Cond.selects "LeaningMarket" ({ cls := "LeaningMarket", name := "falsely", desc := "(I)I" } : Jvm.MethodName) ({ cls := "LeaningMarket", name := "falsely", desc := "(I)I" } : Jvm.MethodName)) ∈ lw_all := lw_g (lw_at lw_m8 83 rfl) rfl
theorem q1858 : (Jvm.Cond.code ({ cls := "LeaningMarket", name := "falsely", desc := "(I)I" } : Jvm.MethodName) prog_1_method_50_code (4 : Nat) (Option.some Jvm.ClassFile.FieldType.int)) ∈ lw_all := lw_g (lw_at lw_m8 84 rfl) rfl
theorem q1863 : (Jvm.Cond.instanceMethod ({ cls := "LeaningMarket", name := "sellers", desc := "(III)I" } : Jvm.MethodName)) ∈ lw_all := lw_g (lw_at lw_m8 89 rfl) rfl
theorem q1864 : (Jvm.Cond.selects "LeaningMarket" ({ cls := "LeaningMarket", name := "sellers", desc := "(III)I" } : Jvm.MethodName) ({ cls := "LeaningMarket", name := "sellers", desc := "(III)I" } : Jvm.MethodName)) ∈ lw_all := lw_g (lw_at lw_m8 90 rfl) rfl
theorem q1865 : (Jvm.Cond.code ({ cls := "LeaningMarket", name := "sellers", desc := "(III)I" } : Jvm.MethodName) prog_1_method_52_code (8 : Nat) (Option.some Jvm.ClassFile.FieldType.int)) ∈ lw_all := lw_g (lw_at lw_m8 91 rfl) rfl
theorem q1866 : (Jvm.Cond.methodLink "LeaningMarket" (366 : Nat) ({ cls := "LeaningMarket", name := "hasBy", desc := "(IIII)I" } : Jvm.MethodName)) ∈ lw_all := lw_g (lw_at lw_m8 92 rfl) rfl
theorem q1867 : (Jvm.Cond.static ({ cls := "LeaningMarket", name := "hasBy", desc := "(IIII)I" } : Jvm.MethodName)) ∈ lw_all := lw_g (lw_at lw_m8 93 rfl) rfl
theorem q1868 : (Jvm.Cond.code ({ cls := "LeaningMarket", name := "hasBy", desc := "(IIII)I" } : Jvm.MethodName) prog_1_method_51_code (4 : Nat) (Option.some Jvm.ClassFile.FieldType.int)) ∈ lw_all := lw_g (lw_at lw_m8 94 rfl) rfl
theorem q1873 : (Jvm.Cond.instanceMethod ({ cls := "LeaningMarket", name := "even", desc := "(III)J" } : Jvm.MethodName)) ∈ lw_all := lw_g (lw_at lw_m8 99 rfl) rfl
theorem q1874 : (Jvm.Cond.selects "LeaningMarket" ({ cls := "LeaningMarket", name := "even", desc := "(III)J" } : Jvm.MethodName) ({ cls := "LeaningMarket", name := "even", desc := "(III)J" } : Jvm.MethodName)) ∈ lw_all := lw_g (lw_at lw_m8 100 rfl) rfl
theorem q1875 : (Jvm.Cond.code ({ cls := "LeaningMarket", name := "even", desc := "(III)J" } : Jvm.MethodName) prog_1_method_53_code (9 : Nat) (Option.some Jvm.ClassFile.FieldType.long)) ∈ lw_all := lw_g (lw_at lw_m8 101 rfl) rfl
theorem q1876 : (Jvm.Cond.constantLong "LeaningMarket" (369 : Nat) (16 : Int64)) ∈ lw_all := lw_g (lw_at lw_m8 102 rfl) rfl
theorem q1881 : (Jvm.Cond.instanceMethod ({ cls := "LeaningMarket", name := "share", desc := "(III)I" } : Jvm.MethodName)) ∈ lw_all := lw_g (lw_at lw_m8 107 rfl) rfl
theorem q1882 : (Jvm.Cond.selects "LeaningMarket" ({ cls := "LeaningMarket", name := "share", desc := "(III)I" } : Jvm.MethodName) ({ cls := "LeaningMarket", name := "share", desc := "(III)I" } : Jvm.MethodName)) ∈ lw_all := lw_g (lw_at lw_m8 108 rfl) rfl
theorem q1883 : (Jvm.Cond.code ({ cls := "LeaningMarket", name := "share", desc := "(III)I" } : Jvm.MethodName) prog_1_method_55_code (5 : Nat) (Option.some Jvm.ClassFile.FieldType.int)) ∈ lw_all := lw_g (lw_at lw_m8 109 rfl) rfl
theorem q1884 : (Jvm.Cond.methodLink "LeaningMarket" (371 : Nat) ({ cls := "LeaningMarket", name := "shared", desc := "(II)I" } : Jvm.MethodName)) ∈ lw_all := lw_g (lw_at lw_m8 110 rfl) rfl
theorem q1885 : (Jvm.Cond.privateMethod ({ cls := "LeaningMarket", name := "shared", desc := "(II)I" } : Jvm.MethodName)) ∈ lw_tbl := lw_at lw_m8 111 rfl
theorem q1886 : (Jvm.Cond.instanceMethod ({ cls := "LeaningMarket", name := "shared", desc := "(II)I" } : Jvm.MethodName)) ∈ lw_all := lw_g (lw_at lw_m8 112 rfl) rfl
theorem q1887 : (Jvm.Cond.code ({ cls := "LeaningMarket", name := "shared", desc := "(II)I" } : Jvm.MethodName) prog_1_method_54_code (5 : Nat) (Option.some Jvm.ClassFile.FieldType.int)) ∈ lw_all := lw_g (lw_at lw_m8 113 rfl) rfl
theorem q1892 : (Jvm.Cond.instanceMethod ({ cls := "LeaningMarket", name := "heaviest", desc := "(I)I" } : Jvm.MethodName)) ∈ lw_all := lw_g (lw_at lw_m8 118 rfl) rfl
theorem q1893 : (Jvm.Cond.selects "LeaningMarket" ({ cls := "LeaningMarket", name := "heaviest", desc := "(I)I" } : Jvm.MethodName) ({ cls := "LeaningMarket", name := "heaviest", desc := "(I)I" } : Jvm.MethodName)) ∈ lw_all := lw_g (lw_at lw_m8 119 rfl) rfl
theorem q1894 : (Jvm.Cond.code ({ cls := "LeaningMarket", name := "heaviest", desc := "(I)I" } : Jvm.MethodName) prog_1_method_28_code (3 : Nat) (Option.some Jvm.ClassFile.FieldType.int)) ∈ lw_all := lw_g (lw_at lw_m8 120 rfl) rfl
theorem q1899 : (Jvm.Cond.instanceMethod ({ cls := "LeaningMarket", name := "above", desc := "(I)I" } : Jvm.MethodName)) ∈ lw_all := lw_g (lw_at lw_m8 125 rfl) rfl
theorem q1900 : (Jvm.Cond.selects "LeaningMarket" ({ cls := "LeaningMarket", name := "above", desc := "(I)I" } : Jvm.MethodName) ({ cls := "LeaningMarket", name := "above", desc := "(I)I" } : Jvm.MethodName)) ∈ lw_all := lw_g (lw_at lw_m8 126 rfl) rfl
theorem q1901 : (Jvm.Cond.code ({ cls := "LeaningMarket", name := "above", desc := "(I)I" } : Jvm.MethodName) prog_1_method_40_code (4 : Nat) (Option.some Jvm.ClassFile.FieldType.int)) ∈ lw_all := lw_g (lw_at lw_m8 127 rfl) rfl
theorem q1906 : (Jvm.Cond.instanceMethod ({ cls := "LeaningMarket", name := "alike", desc := "(I)I" } : Jvm.MethodName)) ∈ lw_all := lw_g (lw_at lw_m8 132 rfl) rfl
theorem q1907 : (Jvm.Cond.selects "LeaningMarket" ({ cls := "LeaningMarket", name := "alike", desc := "(I)I" } : Jvm.MethodName) ({ cls := "LeaningMarket", name := "alike", desc := "(I)I" } : Jvm.MethodName)) ∈ lw_all := lw_g (lw_at lw_m8 133 rfl) rfl
theorem q1908 : (Jvm.Cond.code ({ cls := "LeaningMarket", name := "alike", desc := "(I)I" } : Jvm.MethodName) prog_1_method_29_code (6 : Nat) (Option.some Jvm.ClassFile.FieldType.int)) ∈ lw_all := lw_g (lw_at lw_m8 134 rfl) rfl
theorem q1913 : (Jvm.Cond.instanceMethod ({ cls := "LeaningMarket", name := "against", desc := "(II)I" } : Jvm.MethodName)) ∈ lw_all := lw_g (lw_at lw_m8 139 rfl) rfl
theorem q1914 : (Jvm.Cond.selects "LeaningMarket" ({ cls := "LeaningMarket", name := "against", desc := "(II)I" } : Jvm.MethodName) ({ cls := "LeaningMarket", name := "against", desc := "(II)I" } : Jvm.MethodName)) ∈ lw_all := lw_g (lw_at lw_m8 140 rfl) rfl
theorem q1915 : (Jvm.Cond.code ({ cls := "LeaningMarket", name := "against", desc := "(II)I" } : Jvm.MethodName) prog_1_method_30_code (4 : Nat) (Option.some Jvm.ClassFile.FieldType.int)) ∈ lw_all := lw_g (lw_at lw_m8 141 rfl) rfl
theorem q1920 : (Jvm.Cond.instanceMethod ({ cls := "LeaningMarket", name := "fair", desc := "(IIII)I" } : Jvm.MethodName)) ∈ lw_all := lw_g (lw_at lw_m8 146 rfl) rfl
theorem q1921 : (Jvm.Cond.selects "LeaningMarket" ({ cls := "LeaningMarket", name := "fair", desc := "(IIII)I" } : Jvm.MethodName) ({ cls := "LeaningMarket", name := "fair", desc := "(IIII)I" } : Jvm.MethodName)) ∈ lw_all := lw_g (lw_at lw_m8 147 rfl) rfl
theorem q1922 : (Jvm.Cond.code ({ cls := "LeaningMarket", name := "fair", desc := "(IIII)I" } : Jvm.MethodName) prog_1_method_59_code (6 : Nat) (Option.some Jvm.ClassFile.FieldType.int)) ∈ lw_all := lw_g (lw_at lw_m8 148 rfl) rfl
theorem q1923 : (Jvm.Cond.methodLink "LeaningMarket" (388 : Nat) ({ cls := "LeaningMarket", name := "isFair", desc := "(II)Z" } : Jvm.MethodName)) ∈ lw_all := lw_g (lw_at lw_m8 149 rfl) rfl
theorem q1924 : (Jvm.Cond.static ({ cls := "LeaningMarket", name := "isFair", desc := "(II)Z" } : Jvm.MethodName)) ∈ lw_all := lw_g (lw_at lw_m8 150 rfl) rfl
theorem q1925 : (Jvm.Cond.code ({ cls := "LeaningMarket", name := "isFair", desc := "(II)Z" } : Jvm.MethodName) prog_1_method_58_code (2 : Nat) (Option.some Jvm.ClassFile.FieldType.boolean)) ∈ lw_all := lw_g (lw_at lw_m8 151 rfl) rfl
theorem q1926 : (Jvm.Cond.methodLink "LeaningMarket" (391 : Nat) ({ cls := "LeaningMarket", name := "fairBy", desc := "(III)LLeaningMarket$Market;" } : Jvm.MethodName)) ∈ lw_all := lw_g (lw_at lw_m8 152 rfl) rfl
theorem q1927 : (Jvm.Cond.privateMethod ({ cls := "LeaningMarket", name := "fairBy", desc := "(III)LLeaningMarket$Market;" } : Jvm.MethodName)) ∈ lw_tbl := lw_at lw_m8 153 rfl
theorem q1928 : (Jvm.Cond.instanceMethod ({ cls := "LeaningMarket", name := "fairBy", desc := "(III)LLeaningMarket$Market;" } : Jvm.MethodName)) ∈ lw_all := lw_g (lw_at lw_m8 154 rfl) rfl
theorem q1929 : (Jvm.Cond.code ({ cls := "LeaningMarket", name := "fairBy", desc := "(III)LLeaningMarket$Market;" } : Jvm.MethodName) prog_1_method_57_code (8 : Nat) (Option.some (Jvm.ClassFile.FieldType.object "LeaningMarket$Market"))) ∈ lw_all := lw_g (lw_at lw_m8 155 rfl) rfl
theorem q1930 : (Jvm.Cond.methodLink "LeaningMarket" (378 : Nat) ({ cls := "LeaningMarket", name := "draw", desc := "(I)I" } : Jvm.MethodName)) ∈ lw_all := lw_g (lw_at lw_m8 156 rfl) rfl
theorem q1931 : (Jvm.Cond.privateMethod ({ cls := "LeaningMarket", name := "draw", desc := "(I)I" } : Jvm.MethodName)) ∈ lw_tbl := lw_at lw_m8 157 rfl
theorem q1932 : (Jvm.Cond.instanceMethod ({ cls := "LeaningMarket", name := "draw", desc := "(I)I" } : Jvm.MethodName)) ∈ lw_all := lw_g (lw_at lw_m8 158 rfl) rfl
theorem q1933 : (Jvm.Cond.code ({ cls := "LeaningMarket", name := "draw", desc := "(I)I" } : Jvm.MethodName) prog_1_method_56_code (2 : Nat) (Option.some Jvm.ClassFile.FieldType.int)) ∈ lw_all := lw_g (lw_at lw_m8 159 rfl) rfl
theorem q1934 : (Jvm.Cond.constant "LeaningMarket" (377 : Nat) (1103515245 : Int32)) ∈ lw_all := lw_g (lw_at lw_m8 160 rfl) rfl
theorem q1935 : (Jvm.Cond.methodLink "LeaningMarket" (381 : Nat) ({ cls := "LeaningMarket$Market", name := "weighs", desc := "(IIII)Z" } : Jvm.MethodName)) ∈ lw_all := lw_g (lw_at lw_m8 161 rfl) rfl
theorem q1936 : (Jvm.Cond.methodLink "LeaningMarket" (385 : Nat) ({ cls := "LeaningMarket$Market", name := "tips", desc := "(I)Z" } : Jvm.MethodName)) ∈ lw_all := lw_g (lw_at lw_m8 162 rfl) rfl
theorem q1941 : (Jvm.Cond.instanceMethod ({ cls := "LeaningMarket", name := "span", desc := "(IIIIII)I" } : Jvm.MethodName)) ∈ lw_all := lw_g (lw_at lw_m8 167 rfl) rfl
theorem q1942 : (Jvm.Cond.selects "LeaningMarket" ({ cls := "LeaningMarket", name := "span", desc := "(IIIIII)I" } : Jvm.MethodName) ({ cls := "LeaningMarket", name := "span", desc := "(IIIIII)I" } : Jvm.MethodName)) ∈ lw_all := lw_g (lw_at lw_m8 168 rfl) rfl
theorem q1943 : (Jvm.Cond.code ({ cls := "LeaningMarket", name := "span", desc := "(IIIIII)I" } : Jvm.MethodName) prog_1_method_60_code (12 : Nat) (Option.some Jvm.ClassFile.FieldType.int)) ∈ lw_all := lw_g (lw_at lw_m8 169 rfl) rfl
theorem q2568 : (Jvm.Cond.castable "LeaningMarket" "java/lang/Object") ∈ lw_tbl := lw_at lw_m11 74 rfl
theorem in_X1 : ∀ w ∈ wsX10, w ∈ lw_all := lw_in wsX10 [754, 756, 758, 760, 762, 764, 766, 768, 770, 772, 774, 776, 778, 780, 782, 784, 786, 788, 790, 792, 794, 796, 798, 800, 802] (by decide +kernel) (by decide +kernel)

/-! LeaningMarket$Told -/
set_option maxRecDepth 100000
def RX2 : String := "LeaningMarket$Told"
def TX2 : u_T := fun k => match k with
  | 0 => ("LeaningMarket$Told", "weight", "[I", true)
  | 1 => ("LeaningMarket$Told", "cries", "Ljava/util/ArrayList;", true)
  | 2 => ("LeaningMarket$Told", "things", "I", false)
  | 3 => ("LeaningMarket$Told", "lean", "I", false)
  | 4 => ("LeaningMarket$Told", "play", "I", false)
  | _ => ("LeaningMarket$Told", "clauses", "I", false)
def tyX2 : Nat → FieldType := fun k => match k with
  | 0 => .array .int
  | 1 => .object "java/util/ArrayList"
  | 2 => .int
  | 3 => .int
  | 4 => .int
  | _ => .int
abbrev wsX20 : List Cond := u_ws RX2 TX2 6
theorem nmX2 : ∀ a, a < 6 → ∀ b, b < 6 → a ≠ b → (TX2 a).2.1 ≠ (TX2 b).2.1 := by decide +kernel
theorem tyX2_ok : ∀ k, k < 6 → parseFieldDescriptor (TX2 k).2.2.1 = some (tyX2 k) := by decide +kernel
abbrev cX2_init : ByteArray := prog_25_method_1_code
def yX2_init : MethodName := ⟨RX2, "<init>", "()V"⟩
theorem q96 : (Jvm.Cond.initialized "LeaningMarket$Told") ∈ lw_all := lw_g (lw_at lw_m1 2 rfl) rfl
theorem q156 : (Jvm.Cond.instantiable "LeaningMarket$Told" (6 : Nat)) ∈ lw_all := lw_g (lw_at lw_m1 62 rfl) rfl
theorem q158 : (Jvm.Cond.instanceMethod ({ cls := "LeaningMarket$Told", name := "<init>", desc := "()V" } : Jvm.MethodName)) ∈ lw_all := lw_g (lw_at lw_m1 64 rfl) rfl
theorem q159 : (Jvm.Cond.code ({ cls := "LeaningMarket$Told", name := "<init>", desc := "()V" } : Jvm.MethodName) prog_25_method_1_code (1 : Nat) (Option.none : Option Jvm.ClassFile.FieldType)) ∈ lw_all := lw_g (lw_at lw_m1 65 rfl) rfl
theorem q160 : (Jvm.Cond.methodLink "LeaningMarket$Told" (3 : Nat) ({ cls := "java/lang/Object", name := "<init>", desc := "()V" } : Jvm.MethodName)) ∈ lw_all := lw_g (lw_at lw_m1 66 rfl) rfl
theorem q161 : (Jvm.Cond.classLink "LeaningMarket$Told" (15 : Nat) "java/util/ArrayList") ∈ lw_all := lw_g (lw_at lw_m1 67 rfl) rfl
theorem q163 : (Jvm.Cond.methodLink "LeaningMarket$Told" (17 : Nat) ({ cls := "java/util/ArrayList", name := "<init>", desc := "(I)V" } : Jvm.MethodName)) ∈ lw_all := lw_g (lw_at lw_m1 69 rfl) rfl
theorem q504 : (Jvm.Cond.fieldLink "LeaningMarket$Told" (9 : Nat) "LeaningMarket$Told" "weight" "[I") ∈ lw_all := lw_g (lw_at lw_m2 170 rfl) rfl
theorem q508 : (Jvm.Cond.fieldLink "LeaningMarket$Told" (20 : Nat) "LeaningMarket$Told" "cries" "Ljava/util/ArrayList;") ∈ lw_all := lw_g (lw_at lw_m2 174 rfl) rfl
theorem q514 : (Jvm.Cond.fieldLink "LeaningMarket$Told" (24 : Nat) "LeaningMarket$Told" "lean" "I") ∈ lw_all := lw_g (lw_at lw_m2 180 rfl) rfl
theorem q521 : (Jvm.Cond.laysFinal "LeaningMarket$Told" "LeaningMarket$Told" "weight" "[I") ∈ lw_all := lw_g (lw_at lw_m2 187 rfl) rfl
theorem q522 : (Jvm.Cond.soleField "LeaningMarket$Told" "weight") ∈ lw_all := lw_g (lw_at lw_m2 188 rfl) rfl
theorem q523 : (Jvm.Cond.laysFinal "LeaningMarket$Told" "LeaningMarket$Told" "cries" "Ljava/util/ArrayList;") ∈ lw_all := lw_g (lw_at lw_m2 189 rfl) rfl
theorem q524 : (Jvm.Cond.soleField "LeaningMarket$Told" "cries") ∈ lw_all := lw_g (lw_at lw_m2 190 rfl) rfl
theorem q525 : (Jvm.Cond.lays "LeaningMarket$Told" "LeaningMarket$Told" "things" "I") ∈ lw_all := lw_g (lw_at lw_m2 191 rfl) rfl
theorem q526 : (Jvm.Cond.soleField "LeaningMarket$Told" "things") ∈ lw_all := lw_g (lw_at lw_m2 192 rfl) rfl
theorem q527 : (Jvm.Cond.lays "LeaningMarket$Told" "LeaningMarket$Told" "lean" "I") ∈ lw_all := lw_g (lw_at lw_m2 193 rfl) rfl
theorem q528 : (Jvm.Cond.soleField "LeaningMarket$Told" "lean") ∈ lw_all := lw_g (lw_at lw_m2 194 rfl) rfl
theorem q529 : (Jvm.Cond.lays "LeaningMarket$Told" "LeaningMarket$Told" "play" "I") ∈ lw_all := lw_g (lw_at lw_m2 195 rfl) rfl
theorem q530 : (Jvm.Cond.soleField "LeaningMarket$Told" "play") ∈ lw_all := lw_g (lw_at lw_m2 196 rfl) rfl
theorem q531 : (Jvm.Cond.lays "LeaningMarket$Told" "LeaningMarket$Told" "clauses" "I") ∈ lw_all := lw_g (lw_at lw_m2 197 rfl) rfl
theorem q532 : (Jvm.Cond.soleField "LeaningMarket$Told" "clauses") ∈ lw_all := lw_g (lw_at lw_m2 198 rfl) rfl
theorem q533 : (Jvm.Cond.superclass "LeaningMarket$Told" "java/lang/Object") ∈ lw_all := lw_g (lw_at lw_m2 199 rfl) rfl
theorem q709 : (Jvm.Cond.selects "LeaningMarket$Told" ({ cls := "java/lang/Object", name := "getClass", desc := "()Ljava/lang/Class;" } : Jvm.MethodName) ({ cls := "java/lang/Object", name := "getClass", desc := "()Ljava/lang/Class;" } : Jvm.MethodName)) ∈ lw_all := lw_g (lw_at lw_m3 135 rfl) rfl
theorem q2569 : (Jvm.Cond.castable "LeaningMarket$Told" "java/lang/Object") ∈ lw_tbl := lw_at lw_m11 75 rfl
theorem in_X2 : ∀ w ∈ wsX20, w ∈ lw_all := lw_in wsX20 [521, 523, 525, 527, 529, 531] (by decide +kernel) (by decide +kernel)

/-! LeaningMarket$Term -/
set_option maxRecDepth 100000
def RX3 : String := "LeaningMarket$Term"
abbrev cX3_init : ByteArray := prog_22_method_1_code
def yX3_init : MethodName := ⟨RX3, "<init>", "()V"⟩
theorem q116 : (Jvm.Cond.initialized "LeaningMarket$Term") ∈ lw_all := lw_g (lw_at lw_m1 22 rfl) rfl
theorem q545 : (Jvm.Cond.instanceMethod ({ cls := "LeaningMarket$Term", name := "<init>", desc := "()V" } : Jvm.MethodName)) ∈ lw_all := lw_g (lw_at lw_m2 211 rfl) rfl
theorem q546 : (Jvm.Cond.code ({ cls := "LeaningMarket$Term", name := "<init>", desc := "()V" } : Jvm.MethodName) prog_22_method_1_code (1 : Nat) (Option.none : Option Jvm.ClassFile.FieldType)) ∈ lw_all := lw_g (lw_at lw_m2 212 rfl) rfl
theorem q547 : (Jvm.Cond.methodLink "LeaningMarket$Term" (1 : Nat) ({ cls := "java/lang/Object", name := "<init>", desc := "()V" } : Jvm.MethodName)) ∈ lw_all := lw_g (lw_at lw_m2 213 rfl) rfl
theorem q1527 : (Jvm.Cond.declares ({ cls := "LeaningMarket$Term", name := "of", desc := "([I)I" } : Jvm.MethodName)) ∈ lw_tbl := lw_at lw_m6 233 rfl
theorem q1528 : (Jvm.Cond.sameMethod "LeaningMarket$Term" "LeaningMarket$Term" "of" "([I)I") ∈ lw_all := lw_g (lw_at lw_m6 234 rfl) rfl

/-! LeaningMarket$Two -/
set_option maxRecDepth 100000
def RX4 : String := "LeaningMarket$Two"
abbrev cX4_init : ByteArray := prog_27_method_1_code
def yX4_init : MethodName := ⟨RX4, "<init>", "(LLeaningMarket$Term;LLeaningMarket$Term;)V"⟩
abbrev cX4_of : ByteArray := prog_27_method_3_code
def yX4_of : MethodName := ⟨RX4, "of", "([I)I"⟩
theorem q117 : (Jvm.Cond.initialized "LeaningMarket$Two") ∈ lw_all := lw_g (lw_at lw_m1 23 rfl) rfl
theorem q566 : (Jvm.Cond.instanceMethod ({ cls := "LeaningMarket$Two", name := "<init>", desc := "(LLeaningMarket$Term;LLeaningMarket$Term;)V" } : Jvm.MethodName)) ∈ lw_all := lw_g (lw_at lw_m2 232 rfl) rfl
theorem q567 : (Jvm.Cond.code ({ cls := "LeaningMarket$Two", name := "<init>", desc := "(LLeaningMarket$Term;LLeaningMarket$Term;)V" } : Jvm.MethodName) prog_27_method_1_code (3 : Nat) (Option.none : Option Jvm.ClassFile.FieldType)) ∈ lw_all := lw_g (lw_at lw_m2 233 rfl) rfl
theorem q568 : (Jvm.Cond.methodLinkNest "LeaningMarket$Two" (1 : Nat) ({ cls := "LeaningMarket$Term", name := "<init>", desc := "()V" } : Jvm.MethodName) "LeaningMarket") ∈ lw_tbl := lw_at lw_m2 234 rfl
theorem q569 : (Jvm.Cond.fieldLink "LeaningMarket$Two" (7 : Nat) "LeaningMarket$Two" "a" "LLeaningMarket$Term;") ∈ lw_all := lw_g (lw_at lw_m2 235 rfl) rfl
theorem q570 : (Jvm.Cond.fieldLink "LeaningMarket$Two" (13 : Nat) "LeaningMarket$Two" "b" "LLeaningMarket$Term;") ∈ lw_all := lw_g (lw_at lw_m2 236 rfl) rfl
theorem q572 : (Jvm.Cond.soleField "LeaningMarket$Two" "a") ∈ lw_all := lw_g (lw_at lw_m2 238 rfl) rfl
theorem q574 : (Jvm.Cond.soleField "LeaningMarket$Two" "b") ∈ lw_all := lw_g (lw_at lw_m3 0 rfl) rfl
theorem q1530 : (Jvm.Cond.instanceMethod ({ cls := "LeaningMarket$Two", name := "of", desc := "([I)I" } : Jvm.MethodName)) ∈ lw_all := lw_g (lw_at lw_m6 236 rfl) rfl
theorem q1531 : (Jvm.Cond.code ({ cls := "LeaningMarket$Two", name := "of", desc := "([I)I" } : Jvm.MethodName) prog_27_method_3_code (2 : Nat) (Option.some Jvm.ClassFile.FieldType.int)) ∈ lw_all := lw_g (lw_at lw_m6 237 rfl) rfl
theorem q1532 : (Jvm.Cond.methodLink "LeaningMarket$Two" (16 : Nat) ({ cls := "LeaningMarket$Term", name := "of", desc := "([I)I" } : Jvm.MethodName)) ∈ lw_all := lw_g (lw_at lw_m6 238 rfl) rfl
theorem q1537 : (Jvm.Cond.methodLink "LeaningMarket$Two" (20 : Nat) ({ cls := "LeaningMarket$Two", name := "with", desc := "(II)I" } : Jvm.MethodName)) ∈ lw_all := lw_g (lw_at lw_m7 3 rfl) rfl
theorem q1538 : (Jvm.Cond.declares ({ cls := "LeaningMarket$Two", name := "with", desc := "(II)I" } : Jvm.MethodName)) ∈ lw_tbl := lw_at lw_m7 4 rfl
theorem q1539 : (Jvm.Cond.sameMethod "LeaningMarket$Two" "LeaningMarket$Two" "with" "(II)I") ∈ lw_all := lw_g (lw_at lw_m7 5 rfl) rfl

/-! LeaningMarket$By -/
set_option maxRecDepth 100000
def RX5 : String := "LeaningMarket$By"
def TX5 : u_T := fun k => match k with
  | 0 => ("LeaningMarket$Two", "a", "LLeaningMarket$Term;", true)
  | _ => ("LeaningMarket$Two", "b", "LLeaningMarket$Term;", true)
def tyX5 : Nat → FieldType := fun k => match k with
  | 0 => .object "LeaningMarket$Term"
  | _ => .object "LeaningMarket$Term"
abbrev wsX50 : List Cond := u_ws RX5 TX5 2
theorem nmX5 : ∀ a, a < 2 → ∀ b, b < 2 → a ≠ b → (TX5 a).2.1 ≠ (TX5 b).2.1 := by decide +kernel
theorem tyX5_ok : ∀ k, k < 2 → parseFieldDescriptor (TX5 k).2.2.1 = some (tyX5 k) := by decide +kernel
abbrev cX5_init : ByteArray := prog_5_method_1_code
def yX5_init : MethodName := ⟨RX5, "<init>", "(LLeaningMarket$Term;LLeaningMarket$Term;)V"⟩
abbrev cX5_with : ByteArray := prog_5_method_2_code
def yX5_with : MethodName := ⟨RX5, "with", "(II)I"⟩
theorem q118 : (Jvm.Cond.initialized "LeaningMarket$By") ∈ lw_all := lw_g (lw_at lw_m1 24 rfl) rfl
theorem q538 : (Jvm.Cond.instantiable "LeaningMarket$By" (2 : Nat)) ∈ lw_all := lw_g (lw_at lw_m2 204 rfl) rfl
theorem q563 : (Jvm.Cond.instanceMethod ({ cls := "LeaningMarket$By", name := "<init>", desc := "(LLeaningMarket$Term;LLeaningMarket$Term;)V" } : Jvm.MethodName)) ∈ lw_all := lw_g (lw_at lw_m2 229 rfl) rfl
theorem q564 : (Jvm.Cond.code ({ cls := "LeaningMarket$By", name := "<init>", desc := "(LLeaningMarket$Term;LLeaningMarket$Term;)V" } : Jvm.MethodName) prog_5_method_1_code (3 : Nat) (Option.none : Option Jvm.ClassFile.FieldType)) ∈ lw_all := lw_g (lw_at lw_m2 230 rfl) rfl
theorem q565 : (Jvm.Cond.methodLink "LeaningMarket$By" (1 : Nat) ({ cls := "LeaningMarket$Two", name := "<init>", desc := "(LLeaningMarket$Term;LLeaningMarket$Term;)V" } : Jvm.MethodName)) ∈ lw_all := lw_g (lw_at lw_m2 231 rfl) rfl
theorem q571 : (Jvm.Cond.laysFinal "LeaningMarket$By" "LeaningMarket$Two" "a" "LLeaningMarket$Term;") ∈ lw_all := lw_g (lw_at lw_m2 237 rfl) rfl
theorem q573 : (Jvm.Cond.laysFinal "LeaningMarket$By" "LeaningMarket$Two" "b" "LLeaningMarket$Term;") ∈ lw_all := lw_g (lw_at lw_m2 239 rfl) rfl
theorem q575 : (Jvm.Cond.superclass "LeaningMarket$By" "LeaningMarket$Two") ∈ lw_all := lw_g (lw_at lw_m3 1 rfl) rfl
theorem q693 : (Jvm.Cond.selects "LeaningMarket$By" ({ cls := "java/lang/Object", name := "getClass", desc := "()Ljava/lang/Class;" } : Jvm.MethodName) ({ cls := "java/lang/Object", name := "getClass", desc := "()Ljava/lang/Class;" } : Jvm.MethodName)) ∈ lw_all := lw_g (lw_at lw_m3 119 rfl) rfl
theorem q1529 : (Jvm.Cond.selects "LeaningMarket$By" ({ cls := "LeaningMarket$Term", name := "of", desc := "([I)I" } : Jvm.MethodName) ({ cls := "LeaningMarket$Two", name := "of", desc := "([I)I" } : Jvm.MethodName)) ∈ lw_all := lw_g (lw_at lw_m6 235 rfl) rfl
theorem q1540 : (Jvm.Cond.selects "LeaningMarket$By" ({ cls := "LeaningMarket$Two", name := "with", desc := "(II)I" } : Jvm.MethodName) ({ cls := "LeaningMarket$By", name := "with", desc := "(II)I" } : Jvm.MethodName)) ∈ lw_all := lw_g (lw_at lw_m7 6 rfl) rfl
theorem q1541 : (Jvm.Cond.instanceMethod ({ cls := "LeaningMarket$By", name := "with", desc := "(II)I" } : Jvm.MethodName)) ∈ lw_all := lw_g (lw_at lw_m7 7 rfl) rfl
theorem q1542 : (Jvm.Cond.code ({ cls := "LeaningMarket$By", name := "with", desc := "(II)I" } : Jvm.MethodName) prog_5_method_2_code (3 : Nat) (Option.some Jvm.ClassFile.FieldType.int)) ∈ lw_all := lw_g (lw_at lw_m7 8 rfl) rfl
theorem q2574 : (Jvm.Cond.castable "LeaningMarket$By" "java/lang/Object") ∈ lw_tbl := lw_at lw_m11 80 rfl
theorem in_X5 : ∀ w ∈ wsX50, w ∈ lw_all := lw_in wsX50 [571, 573] (by decide +kernel) (by decide +kernel)

/-! LeaningMarket$Fact -/
set_option maxRecDepth 100000
def RX6 : String := "LeaningMarket$Fact"
def TX6 : u_T := fun k => match k with
  | _ => ("LeaningMarket$Fact", "which", "I", true)
def tyX6 : Nat → FieldType := fun k => match k with
  | _ => .int
abbrev wsX60 : List Cond := u_ws RX6 TX6 1
theorem nmX6 : ∀ a, a < 1 → ∀ b, b < 1 → a ≠ b → (TX6 a).2.1 ≠ (TX6 b).2.1 := by decide +kernel
theorem tyX6_ok : ∀ k, k < 1 → parseFieldDescriptor (TX6 k).2.2.1 = some (tyX6 k) := by decide +kernel
abbrev cX6_init : ByteArray := prog_7_method_1_code
def yX6_init : MethodName := ⟨RX6, "<init>", "(I)V"⟩
abbrev cX6_of : ByteArray := prog_7_method_2_code
def yX6_of : MethodName := ⟨RX6, "of", "([I)I"⟩
theorem q119 : (Jvm.Cond.initialized "LeaningMarket$Fact") ∈ lw_all := lw_g (lw_at lw_m1 25 rfl) rfl
theorem q540 : (Jvm.Cond.instantiable "LeaningMarket$Fact" (1 : Nat)) ∈ lw_all := lw_g (lw_at lw_m2 206 rfl) rfl
theorem q542 : (Jvm.Cond.instanceMethod ({ cls := "LeaningMarket$Fact", name := "<init>", desc := "(I)V" } : Jvm.MethodName)) ∈ lw_all := lw_g (lw_at lw_m2 208 rfl) rfl
theorem q543 : (Jvm.Cond.code ({ cls := "LeaningMarket$Fact", name := "<init>", desc := "(I)V" } : Jvm.MethodName) prog_7_method_1_code (2 : Nat) (Option.none : Option Jvm.ClassFile.FieldType)) ∈ lw_all := lw_g (lw_at lw_m2 209 rfl) rfl
theorem q544 : (Jvm.Cond.methodLinkNest "LeaningMarket$Fact" (1 : Nat) ({ cls := "LeaningMarket$Term", name := "<init>", desc := "()V" } : Jvm.MethodName) "LeaningMarket") ∈ lw_tbl := lw_at lw_m2 210 rfl
theorem q548 : (Jvm.Cond.fieldLink "LeaningMarket$Fact" (7 : Nat) "LeaningMarket$Fact" "which" "I") ∈ lw_all := lw_g (lw_at lw_m2 214 rfl) rfl
theorem q549 : (Jvm.Cond.laysFinal "LeaningMarket$Fact" "LeaningMarket$Fact" "which" "I") ∈ lw_all := lw_g (lw_at lw_m2 215 rfl) rfl
theorem q550 : (Jvm.Cond.soleField "LeaningMarket$Fact" "which") ∈ lw_all := lw_g (lw_at lw_m2 216 rfl) rfl
theorem q551 : (Jvm.Cond.superclass "LeaningMarket$Fact" "LeaningMarket$Term") ∈ lw_all := lw_g (lw_at lw_m2 217 rfl) rfl
theorem q695 : (Jvm.Cond.selects "LeaningMarket$Fact" ({ cls := "java/lang/Object", name := "getClass", desc := "()Ljava/lang/Class;" } : Jvm.MethodName) ({ cls := "java/lang/Object", name := "getClass", desc := "()Ljava/lang/Class;" } : Jvm.MethodName)) ∈ lw_all := lw_g (lw_at lw_m3 121 rfl) rfl
theorem q1533 : (Jvm.Cond.instanceMethod ({ cls := "LeaningMarket$Fact", name := "of", desc := "([I)I" } : Jvm.MethodName)) ∈ lw_all := lw_g (lw_at lw_m6 239 rfl) rfl
theorem q1534 : (Jvm.Cond.code ({ cls := "LeaningMarket$Fact", name := "of", desc := "([I)I" } : Jvm.MethodName) prog_7_method_2_code (2 : Nat) (Option.some Jvm.ClassFile.FieldType.int)) ∈ lw_all := lw_g (lw_at lw_m7 0 rfl) rfl
theorem q1563 : (Jvm.Cond.selects "LeaningMarket$Fact" ({ cls := "LeaningMarket$Term", name := "of", desc := "([I)I" } : Jvm.MethodName) ({ cls := "LeaningMarket$Fact", name := "of", desc := "([I)I" } : Jvm.MethodName)) ∈ lw_all := lw_g (lw_at lw_m7 29 rfl) rfl
theorem q2575 : (Jvm.Cond.castable "LeaningMarket$Fact" "java/lang/Object") ∈ lw_tbl := lw_at lw_m11 81 rfl
theorem in_X6 : ∀ w ∈ wsX60, w ∈ lw_all := lw_in wsX60 [549] (by decide +kernel) (by decide +kernel)

/-! LeaningMarket$Plain -/
set_option maxRecDepth 100000
def RX7 : String := "LeaningMarket$Plain"
def TX7 : u_T := fun k => match k with
  | _ => ("LeaningMarket$Plain", "n", "I", true)
def tyX7 : Nat → FieldType := fun k => match k with
  | _ => .int
abbrev wsX70 : List Cond := u_ws RX7 TX7 1
theorem nmX7 : ∀ a, a < 1 → ∀ b, b < 1 → a ≠ b → (TX7 a).2.1 ≠ (TX7 b).2.1 := by decide +kernel
theorem tyX7_ok : ∀ k, k < 1 → parseFieldDescriptor (TX7 k).2.2.1 = some (tyX7 k) := by decide +kernel
abbrev cX7_init : ByteArray := prog_18_method_1_code
def yX7_init : MethodName := ⟨RX7, "<init>", "(I)V"⟩
abbrev cX7_of : ByteArray := prog_18_method_2_code
def yX7_of : MethodName := ⟨RX7, "of", "([I)I"⟩
theorem q120 : (Jvm.Cond.initialized "LeaningMarket$Plain") ∈ lw_all := lw_g (lw_at lw_m1 26 rfl) rfl
theorem q553 : (Jvm.Cond.instantiable "LeaningMarket$Plain" (1 : Nat)) ∈ lw_all := lw_g (lw_at lw_m2 219 rfl) rfl
theorem q555 : (Jvm.Cond.instanceMethod ({ cls := "LeaningMarket$Plain", name := "<init>", desc := "(I)V" } : Jvm.MethodName)) ∈ lw_all := lw_g (lw_at lw_m2 221 rfl) rfl
theorem q556 : (Jvm.Cond.code ({ cls := "LeaningMarket$Plain", name := "<init>", desc := "(I)V" } : Jvm.MethodName) prog_18_method_1_code (2 : Nat) (Option.none : Option Jvm.ClassFile.FieldType)) ∈ lw_all := lw_g (lw_at lw_m2 222 rfl) rfl
theorem q557 : (Jvm.Cond.methodLinkNest "LeaningMarket$Plain" (1 : Nat) ({ cls := "LeaningMarket$Term", name := "<init>", desc := "()V" } : Jvm.MethodName) "LeaningMarket") ∈ lw_tbl := lw_at lw_m2 223 rfl
theorem q558 : (Jvm.Cond.fieldLink "LeaningMarket$Plain" (7 : Nat) "LeaningMarket$Plain" "n" "I") ∈ lw_all := lw_g (lw_at lw_m2 224 rfl) rfl
theorem q559 : (Jvm.Cond.laysFinal "LeaningMarket$Plain" "LeaningMarket$Plain" "n" "I") ∈ lw_all := lw_g (lw_at lw_m2 225 rfl) rfl
theorem q560 : (Jvm.Cond.soleField "LeaningMarket$Plain" "n") ∈ lw_all := lw_g (lw_at lw_m2 226 rfl) rfl
theorem q561 : (Jvm.Cond.superclass "LeaningMarket$Plain" "LeaningMarket$Term") ∈ lw_all := lw_g (lw_at lw_m2 227 rfl) rfl
theorem q705 : (Jvm.Cond.selects "LeaningMarket$Plain" ({ cls := "java/lang/Object", name := "getClass", desc := "()Ljava/lang/Class;" } : Jvm.MethodName) ({ cls := "java/lang/Object", name := "getClass", desc := "()Ljava/lang/Class;" } : Jvm.MethodName)) ∈ lw_all := lw_g (lw_at lw_m3 131 rfl) rfl
theorem q1535 : (Jvm.Cond.instanceMethod ({ cls := "LeaningMarket$Plain", name := "of", desc := "([I)I" } : Jvm.MethodName)) ∈ lw_all := lw_g (lw_at lw_m7 1 rfl) rfl
theorem q1536 : (Jvm.Cond.code ({ cls := "LeaningMarket$Plain", name := "of", desc := "([I)I" } : Jvm.MethodName) prog_18_method_2_code (2 : Nat) (Option.some Jvm.ClassFile.FieldType.int)) ∈ lw_all := lw_g (lw_at lw_m7 2 rfl) rfl
theorem q1568 : (Jvm.Cond.selects "LeaningMarket$Plain" ({ cls := "LeaningMarket$Term", name := "of", desc := "([I)I" } : Jvm.MethodName) ({ cls := "LeaningMarket$Plain", name := "of", desc := "([I)I" } : Jvm.MethodName)) ∈ lw_all := lw_g (lw_at lw_m7 34 rfl) rfl
theorem q2576 : (Jvm.Cond.castable "LeaningMarket$Plain" "java/lang/Object") ∈ lw_tbl := lw_at lw_m11 82 rfl
theorem in_X7 : ∀ w ∈ wsX70, w ∈ lw_all := lw_in wsX70 [559] (by decide +kernel) (by decide +kernel)

/-! LeaningMarket$Market -/
set_option maxRecDepth 100000
def RX8 : String := "LeaningMarket$Market"
def TX8 : u_T := fun k => match k with
  | 0 => ("LeaningMarket$Market", "weight", "[I", true)
  | 1 => ("LeaningMarket$Market", "weighed", "[I", true)
  | 2 => ("LeaningMarket$Market", "wears", "[I", true)
  | 3 => ("LeaningMarket$Market", "cries", "Ljava/util/ArrayList;", true)
  | 4 => ("LeaningMarket$Market", "lean", "I", false)
  | 5 => ("LeaningMarket$Market", "day", "I", false)
  | 6 => ("LeaningMarket$Market", "weighings", "I", false)
  | 7 => ("LeaningMarket$Market", "steps", "I", false)
  | 8 => ("LeaningMarket$Market", "done", "I", false)
  | 9 => ("LeaningMarket$Market", "refused", "I", false)
  | _ => ("LeaningMarket$Market", "this$0", "LLeaningMarket;", true)
def tyX8 : Nat → FieldType := fun k => match k with
  | 0 => .array .int
  | 1 => .array .int
  | 2 => .array .int
  | 3 => .object "java/util/ArrayList"
  | 4 => .int
  | 5 => .int
  | 6 => .int
  | 7 => .int
  | 8 => .int
  | 9 => .int
  | _ => .object "LeaningMarket"
abbrev wsX80 : List Cond := u_ws RX8 TX8 11
theorem nmX8 : ∀ a, a < 11 → ∀ b, b < 11 → a ≠ b → (TX8 a).2.1 ≠ (TX8 b).2.1 := by decide +kernel
theorem tyX8_ok : ∀ k, k < 11 → parseFieldDescriptor (TX8 k).2.2.1 = some (tyX8 k) := by decide +kernel
abbrev cX8_init : ByteArray := prog_12_method_1_code
def yX8_init : MethodName := ⟨RX8, "<init>", "(LLeaningMarket;)V"⟩
abbrev cX8_begins : ByteArray := prog_12_method_2_code
def yX8_begins : MethodName := ⟨RX8, "begins", "()LLeaningMarket$Market;"⟩
abbrev cX8_cries : ByteArray := prog_12_method_4_code
def yX8_cries : MethodName := ⟨RX8, "cries", "(Ljava/util/ArrayList;)V"⟩
abbrev cX8_becomes : ByteArray := prog_12_method_3_code
def yX8_becomes : MethodName := ⟨RX8, "becomes", "(LLeaningMarket$Market;)LLeaningMarket$Market;"⟩
abbrev cX8_feeds : ByteArray := prog_12_method_16_code
def yX8_feeds : MethodName := ⟨RX8, "feeds", "(II)Z"⟩
abbrev cX8_day : ByteArray := prog_12_method_18_code
def yX8_day : MethodName := ⟨RX8, "day", "()Z"⟩
abbrev cX8_passes : ByteArray := prog_12_method_19_code
def yX8_passes : MethodName := ⟨RX8, "passes", "()V"⟩
abbrev cX8_wear : ByteArray := prog_12_method_10_code
def yX8_wear : MethodName := ⟨RX8, "wear", "(I)I"⟩
abbrev cX8_criesOf : ByteArray := prog_12_method_8_code
def yX8_criesOf : MethodName := ⟨RX8, "criesOf", "(I)I"⟩
abbrev cX8_tips : ByteArray := prog_12_method_15_code
def yX8_tips : MethodName := ⟨RX8, "tips", "(I)Z"⟩
abbrev cX8_turns : ByteArray := prog_12_method_17_code
def yX8_turns : MethodName := ⟨RX8, "turns", "()Z"⟩
abbrev cX8_weighs : ByteArray := prog_12_method_14_code
def yX8_weighs : MethodName := ⟨RX8, "weighs", "(IIII)Z"⟩
abbrev cX8_stands : ByteArray := prog_12_method_5_code
def yX8_stands : MethodName := ⟨RX8, "stands", "(IIII)I"⟩
abbrev cX8_isCried : ByteArray := prog_12_method_13_code
def yX8_isCried : MethodName := ⟨RX8, "isCried", "(LLeaningMarket$Cry;)Z"⟩
abbrev cX8_all : ByteArray := prog_12_method_11_code
def yX8_all : MethodName := ⟨RX8, "all", "()I"⟩
abbrev cX8_notSo : ByteArray := prog_12_method_7_code
def yX8_notSo : MethodName := ⟨RX8, "notSo", "()I"⟩
abbrev cX8_isSo : ByteArray := prog_12_method_6_code
def yX8_isSo : MethodName := ⟨RX8, "isSo", "(LLeaningMarket$Cry;)Z"⟩
abbrev cX8_inCries : ByteArray := prog_12_method_9_code
def yX8_inCries : MethodName := ⟨RX8, "inCries", "()I"⟩
abbrev cX8_heaviest : ByteArray := prog_12_method_12_code
def yX8_heaviest : MethodName := ⟨RX8, "heaviest", "()I"⟩
theorem q121 : (Jvm.Cond.initialized "LeaningMarket$Market") ∈ lw_all := lw_g (lw_at lw_m1 27 rfl) rfl
theorem q505 : (Jvm.Cond.fieldLinkNest "LeaningMarket$Market" (38 : Nat) "LeaningMarket$Told" "weight" "[I" "LeaningMarket") ∈ lw_tbl := lw_at lw_m2 171 rfl
theorem q509 : (Jvm.Cond.fieldLinkNest "LeaningMarket$Market" (47 : Nat) "LeaningMarket$Told" "cries" "Ljava/util/ArrayList;" "LeaningMarket") ∈ lw_tbl := lw_at lw_m2 175 rfl
theorem q513 : (Jvm.Cond.fieldLinkNest "LeaningMarket$Market" (106 : Nat) "LeaningMarket$Told" "things" "I" "LeaningMarket") ∈ lw_tbl := lw_at lw_m2 179 rfl
theorem q515 : (Jvm.Cond.fieldLinkNest "LeaningMarket$Market" (51 : Nat) "LeaningMarket$Told" "lean" "I" "LeaningMarket") ∈ lw_tbl := lw_at lw_m2 181 rfl
theorem q518 : (Jvm.Cond.fieldLinkNest "LeaningMarket$Market" (79 : Nat) "LeaningMarket$Told" "play" "I" "LeaningMarket") ∈ lw_tbl := lw_at lw_m2 184 rfl
theorem q577 : (Jvm.Cond.instantiable "LeaningMarket$Market" (11 : Nat)) ∈ lw_all := lw_g (lw_at lw_m3 3 rfl) rfl
theorem q579 : (Jvm.Cond.instanceMethod ({ cls := "LeaningMarket$Market", name := "<init>", desc := "(LLeaningMarket;)V" } : Jvm.MethodName)) ∈ lw_all := lw_g (lw_at lw_m3 5 rfl) rfl
theorem q580 : (Jvm.Cond.code ({ cls := "LeaningMarket$Market", name := "<init>", desc := "(LLeaningMarket;)V" } : Jvm.MethodName) prog_12_method_1_code (2 : Nat) (Option.none : Option Jvm.ClassFile.FieldType)) ∈ lw_all := lw_g (lw_at lw_m3 6 rfl) rfl
theorem q581 : (Jvm.Cond.methodLink "LeaningMarket$Market" (9 : Nat) ({ cls := "java/lang/Object", name := "<init>", desc := "()V" } : Jvm.MethodName)) ∈ lw_all := lw_g (lw_at lw_m3 7 rfl) rfl
theorem q582 : (Jvm.Cond.classLink "LeaningMarket$Market" (25 : Nat) "java/util/ArrayList") ∈ lw_all := lw_g (lw_at lw_m3 8 rfl) rfl
theorem q583 : (Jvm.Cond.methodLink "LeaningMarket$Market" (27 : Nat) ({ cls := "java/util/ArrayList", name := "<init>", desc := "(I)V" } : Jvm.MethodName)) ∈ lw_all := lw_g (lw_at lw_m3 9 rfl) rfl
theorem q584 : (Jvm.Cond.fieldLink "LeaningMarket$Market" (15 : Nat) "LeaningMarket$Market" "weight" "[I") ∈ lw_all := lw_g (lw_at lw_m3 10 rfl) rfl
theorem q586 : (Jvm.Cond.fieldLink "LeaningMarket$Market" (19 : Nat) "LeaningMarket$Market" "weighed" "[I") ∈ lw_all := lw_g (lw_at lw_m3 12 rfl) rfl
theorem q588 : (Jvm.Cond.fieldLink "LeaningMarket$Market" (22 : Nat) "LeaningMarket$Market" "wears" "[I") ∈ lw_all := lw_g (lw_at lw_m3 14 rfl) rfl
theorem q589 : (Jvm.Cond.fieldLink "LeaningMarket$Market" (30 : Nat) "LeaningMarket$Market" "cries" "Ljava/util/ArrayList;") ∈ lw_all := lw_g (lw_at lw_m3 15 rfl) rfl
theorem q591 : (Jvm.Cond.fieldLink "LeaningMarket$Market" (55 : Nat) "LeaningMarket$Market" "lean" "I") ∈ lw_all := lw_g (lw_at lw_m3 17 rfl) rfl
theorem q593 : (Jvm.Cond.fieldLink "LeaningMarket$Market" (56 : Nat) "LeaningMarket$Market" "day" "I") ∈ lw_all := lw_g (lw_at lw_m3 19 rfl) rfl
theorem q595 : (Jvm.Cond.fieldLink "LeaningMarket$Market" (59 : Nat) "LeaningMarket$Market" "weighings" "I") ∈ lw_all := lw_g (lw_at lw_m3 21 rfl) rfl
theorem q604 : (Jvm.Cond.fieldLink "LeaningMarket$Market" (3 : Nat) "LeaningMarket$Market" "this$0" "LLeaningMarket;") ∈ lw_all := lw_g (lw_at lw_m3 30 rfl) rfl
theorem q605 : (Jvm.Cond.laysFinal "LeaningMarket$Market" "LeaningMarket$Market" "weight" "[I") ∈ lw_all := lw_g (lw_at lw_m3 31 rfl) rfl
theorem q606 : (Jvm.Cond.soleField "LeaningMarket$Market" "weight") ∈ lw_all := lw_g (lw_at lw_m3 32 rfl) rfl
theorem q607 : (Jvm.Cond.laysFinal "LeaningMarket$Market" "LeaningMarket$Market" "weighed" "[I") ∈ lw_all := lw_g (lw_at lw_m3 33 rfl) rfl
theorem q608 : (Jvm.Cond.soleField "LeaningMarket$Market" "weighed") ∈ lw_all := lw_g (lw_at lw_m3 34 rfl) rfl
theorem q609 : (Jvm.Cond.laysFinal "LeaningMarket$Market" "LeaningMarket$Market" "wears" "[I") ∈ lw_all := lw_g (lw_at lw_m3 35 rfl) rfl
theorem q610 : (Jvm.Cond.soleField "LeaningMarket$Market" "wears") ∈ lw_all := lw_g (lw_at lw_m3 36 rfl) rfl
theorem q611 : (Jvm.Cond.laysFinal "LeaningMarket$Market" "LeaningMarket$Market" "cries" "Ljava/util/ArrayList;") ∈ lw_all := lw_g (lw_at lw_m3 37 rfl) rfl
theorem q612 : (Jvm.Cond.soleField "LeaningMarket$Market" "cries") ∈ lw_all := lw_g (lw_at lw_m3 38 rfl) rfl
theorem q613 : (Jvm.Cond.lays "LeaningMarket$Market" "LeaningMarket$Market" "lean" "I") ∈ lw_all := lw_g (lw_at lw_m3 39 rfl) rfl
theorem q614 : (Jvm.Cond.soleField "LeaningMarket$Market" "lean") ∈ lw_all := lw_g (lw_at lw_m3 40 rfl) rfl
theorem q615 : (Jvm.Cond.lays "LeaningMarket$Market" "LeaningMarket$Market" "day" "I") ∈ lw_all := lw_g (lw_at lw_m3 41 rfl) rfl
theorem q616 : (Jvm.Cond.soleField "LeaningMarket$Market" "day") ∈ lw_all := lw_g (lw_at lw_m3 42 rfl) rfl
theorem q617 : (Jvm.Cond.lays "LeaningMarket$Market" "LeaningMarket$Market" "weighings" "I") ∈ lw_all := lw_g (lw_at lw_m3 43 rfl) rfl
theorem q618 : (Jvm.Cond.soleField "LeaningMarket$Market" "weighings") ∈ lw_all := lw_g (lw_at lw_m3 44 rfl) rfl
theorem q619 : (Jvm.Cond.lays "LeaningMarket$Market" "LeaningMarket$Market" "steps" "I") ∈ lw_all := lw_g (lw_at lw_m3 45 rfl) rfl
theorem q620 : (Jvm.Cond.soleField "LeaningMarket$Market" "steps") ∈ lw_all := lw_g (lw_at lw_m3 46 rfl) rfl
theorem q621 : (Jvm.Cond.lays "LeaningMarket$Market" "LeaningMarket$Market" "done" "I") ∈ lw_all := lw_g (lw_at lw_m3 47 rfl) rfl
theorem q622 : (Jvm.Cond.soleField "LeaningMarket$Market" "done") ∈ lw_all := lw_g (lw_at lw_m3 48 rfl) rfl
theorem q623 : (Jvm.Cond.lays "LeaningMarket$Market" "LeaningMarket$Market" "refused" "I") ∈ lw_all := lw_g (lw_at lw_m3 49 rfl) rfl
theorem q624 : (Jvm.Cond.soleField "LeaningMarket$Market" "refused") ∈ lw_all := lw_g (lw_at lw_m3 50 rfl) rfl
theorem q625 : (Jvm.Cond.laysFinal "LeaningMarket$Market" "LeaningMarket$Market" "this$0" "LLeaningMarket;") ∈ lw_all := lw_g (lw_at lw_m3 51 rfl) rfl
theorem q626 : (Jvm.Cond.soleField "LeaningMarket$Market" "this$0") ∈ lw_all := lw_g (lw_at lw_m3 52 rfl) rfl
theorem q627 : (Jvm.Cond.superclass "LeaningMarket$Market" "java/lang/Object") ∈ lw_all := lw_g (lw_at lw_m3 53 rfl) rfl
theorem q634 : (Jvm.Cond.instanceMethod ({ cls := "LeaningMarket$Market", name := "begins", desc := "()LLeaningMarket$Market;" } : Jvm.MethodName)) ∈ lw_all := lw_g (lw_at lw_m3 60 rfl) rfl
theorem q635 : (Jvm.Cond.selects "LeaningMarket$Market" ({ cls := "LeaningMarket$Market", name := "begins", desc := "()LLeaningMarket$Market;" } : Jvm.MethodName) ({ cls := "LeaningMarket$Market", name := "begins", desc := "()LLeaningMarket$Market;" } : Jvm.MethodName)) ∈ lw_all := lw_g (lw_at lw_m3 61 rfl) rfl
theorem q636 : (Jvm.Cond.code ({ cls := "LeaningMarket$Market", name := "begins", desc := "()LLeaningMarket$Market;" } : Jvm.MethodName) prog_12_method_2_code (2 : Nat) (Option.some (Jvm.ClassFile.FieldType.object "LeaningMarket$Market"))) ∈ lw_all := lw_g (lw_at lw_m3 62 rfl) rfl
theorem q637 : (Jvm.Cond.methodLink "LeaningMarket$Market" (41 : Nat) ({ cls := "java/lang/System", name := "arraycopy", desc := "(Ljava/lang/Object;ILjava/lang/Object;II)V" } : Jvm.MethodName)) ∈ lw_all := lw_g (lw_at lw_m3 63 rfl) rfl
theorem q638 : (Jvm.Cond.methodLink "LeaningMarket$Market" (48 : Nat) ({ cls := "LeaningMarket$Market", name := "cries", desc := "(Ljava/util/ArrayList;)V" } : Jvm.MethodName)) ∈ lw_all := lw_g (lw_at lw_m3 64 rfl) rfl
theorem q639 : (Jvm.Cond.privateMethod ({ cls := "LeaningMarket$Market", name := "cries", desc := "(Ljava/util/ArrayList;)V" } : Jvm.MethodName)) ∈ lw_tbl := lw_at lw_m3 65 rfl
theorem q640 : (Jvm.Cond.instanceMethod ({ cls := "LeaningMarket$Market", name := "cries", desc := "(Ljava/util/ArrayList;)V" } : Jvm.MethodName)) ∈ lw_all := lw_g (lw_at lw_m3 66 rfl) rfl
theorem q641 : (Jvm.Cond.code ({ cls := "LeaningMarket$Market", name := "cries", desc := "(Ljava/util/ArrayList;)V" } : Jvm.MethodName) prog_12_method_4_code (3 : Nat) (Option.none : Option Jvm.ClassFile.FieldType)) ∈ lw_all := lw_g (lw_at lw_m3 67 rfl) rfl
theorem q642 : (Jvm.Cond.methodLink "LeaningMarket$Market" (62 : Nat) ({ cls := "java/util/ArrayList", name := "clear", desc := "()V" } : Jvm.MethodName)) ∈ lw_all := lw_g (lw_at lw_m3 68 rfl) rfl
theorem q646 : (Jvm.Cond.methodLink "LeaningMarket$Market" (65 : Nat) ({ cls := "java/util/ArrayList", name := "size", desc := "()I" } : Jvm.MethodName)) ∈ lw_all := lw_g (lw_at lw_m3 72 rfl) rfl
theorem q650 : (Jvm.Cond.methodLink "LeaningMarket$Market" (69 : Nat) ({ cls := "java/util/ArrayList", name := "get", desc := "(I)Ljava/lang/Object;" } : Jvm.MethodName)) ∈ lw_all := lw_g (lw_at lw_m3 76 rfl) rfl
theorem q664 : (Jvm.Cond.classLink "LeaningMarket$Market" (73 : Nat) "LeaningMarket$Cry") ∈ lw_all := lw_g (lw_at lw_m3 90 rfl) rfl
theorem q665 : (Jvm.Cond.methodLink "LeaningMarket$Market" (75 : Nat) ({ cls := "java/util/ArrayList", name := "add", desc := "(Ljava/lang/Object;)Z" } : Jvm.MethodName)) ∈ lw_all := lw_g (lw_at lw_m3 91 rfl) rfl
theorem q700 : (Jvm.Cond.selects "LeaningMarket$Market" ({ cls := "java/lang/Object", name := "getClass", desc := "()Ljava/lang/Class;" } : Jvm.MethodName) ({ cls := "java/lang/Object", name := "getClass", desc := "()Ljava/lang/Class;" } : Jvm.MethodName)) ∈ lw_all := lw_g (lw_at lw_m3 126 rfl) rfl
theorem q728 : (Jvm.Cond.fieldLinkNest "LeaningMarket$Market" (34 : Nat) "LeaningMarket" "told" "LLeaningMarket$Told;" "LeaningMarket") ∈ lw_tbl := lw_at lw_m3 154 rfl
theorem q823 : (Jvm.Cond.instanceMethod ({ cls := "LeaningMarket$Market", name := "becomes", desc := "(LLeaningMarket$Market;)LLeaningMarket$Market;" } : Jvm.MethodName)) ∈ lw_all := lw_g (lw_at lw_m4 9 rfl) rfl
theorem q824 : (Jvm.Cond.selects "LeaningMarket$Market" ({ cls := "LeaningMarket$Market", name := "becomes", desc := "(LLeaningMarket$Market;)LLeaningMarket$Market;" } : Jvm.MethodName) ({ cls := "LeaningMarket$Market", name := "becomes", desc := "(LLeaningMarket$Market;)LLeaningMarket$Market;" } : Jvm.MethodName)) ∈ lw_all := lw_g (lw_at lw_m4 10 rfl) rfl
theorem q825 : (Jvm.Cond.code ({ cls := "LeaningMarket$Market", name := "becomes", desc := "(LLeaningMarket$Market;)LLeaningMarket$Market;" } : Jvm.MethodName) prog_12_method_3_code (2 : Nat) (Option.some (Jvm.ClassFile.FieldType.object "LeaningMarket$Market"))) ∈ lw_all := lw_g (lw_at lw_m4 11 rfl) rfl
theorem q1158 : (Jvm.Cond.fieldLinkNest "LeaningMarket$Market" (89 : Nat) "LeaningMarket$Cry" "a" "I" "LeaningMarket") ∈ lw_tbl := lw_at lw_m5 104 rfl
theorem q1162 : (Jvm.Cond.fieldLinkNest "LeaningMarket$Market" (86 : Nat) "LeaningMarket$Cry" "n" "I" "LeaningMarket") ∈ lw_tbl := lw_at lw_m5 108 rfl
theorem q1166 : (Jvm.Cond.fieldLinkNest "LeaningMarket$Market" (95 : Nat) "LeaningMarket$Cry" "b" "I" "LeaningMarket") ∈ lw_tbl := lw_at lw_m5 112 rfl
theorem q1170 : (Jvm.Cond.fieldLinkNest "LeaningMarket$Market" (92 : Nat) "LeaningMarket$Cry" "m" "I" "LeaningMarket") ∈ lw_tbl := lw_at lw_m5 116 rfl
theorem q1494 : (Jvm.Cond.instanceMethod ({ cls := "LeaningMarket$Market", name := "feeds", desc := "(II)Z" } : Jvm.MethodName)) ∈ lw_all := lw_g (lw_at lw_m6 200 rfl) rfl
theorem q1495 : (Jvm.Cond.selects "LeaningMarket$Market" ({ cls := "LeaningMarket$Market", name := "feeds", desc := "(II)Z" } : Jvm.MethodName) ({ cls := "LeaningMarket$Market", name := "feeds", desc := "(II)Z" } : Jvm.MethodName)) ∈ lw_all := lw_g (lw_at lw_m6 201 rfl) rfl
theorem q1496 : (Jvm.Cond.code ({ cls := "LeaningMarket$Market", name := "feeds", desc := "(II)Z" } : Jvm.MethodName) prog_12_method_16_code (3 : Nat) (Option.some Jvm.ClassFile.FieldType.boolean)) ∈ lw_all := lw_g (lw_at lw_m6 202 rfl) rfl
theorem q1497 : (Jvm.Cond.methodLink "LeaningMarket$Market" (138 : Nat) ({ cls := "java/lang/Math", name := "min", desc := "(II)I" } : Jvm.MethodName)) ∈ lw_all := lw_g (lw_at lw_m6 203 rfl) rfl
theorem q1502 : (Jvm.Cond.instanceMethod ({ cls := "LeaningMarket$Market", name := "day", desc := "()Z" } : Jvm.MethodName)) ∈ lw_all := lw_g (lw_at lw_m6 208 rfl) rfl
theorem q1503 : (Jvm.Cond.selects "LeaningMarket$Market" ({ cls := "LeaningMarket$Market", name := "day", desc := "()Z" } : Jvm.MethodName) ({ cls := "LeaningMarket$Market", name := "day", desc := "()Z" } : Jvm.MethodName)) ∈ lw_all := lw_g (lw_at lw_m6 209 rfl) rfl
theorem q1504 : (Jvm.Cond.code ({ cls := "LeaningMarket$Market", name := "day", desc := "()Z" } : Jvm.MethodName) prog_12_method_18_code (1 : Nat) (Option.some Jvm.ClassFile.FieldType.boolean)) ∈ lw_all := lw_g (lw_at lw_m6 210 rfl) rfl
theorem q1505 : (Jvm.Cond.methodLink "LeaningMarket$Market" (144 : Nat) ({ cls := "LeaningMarket$Market", name := "passes", desc := "()V" } : Jvm.MethodName)) ∈ lw_all := lw_g (lw_at lw_m6 211 rfl) rfl
theorem q1506 : (Jvm.Cond.instanceMethod ({ cls := "LeaningMarket$Market", name := "passes", desc := "()V" } : Jvm.MethodName)) ∈ lw_all := lw_g (lw_at lw_m6 212 rfl) rfl
theorem q1507 : (Jvm.Cond.selects "LeaningMarket$Market" ({ cls := "LeaningMarket$Market", name := "passes", desc := "()V" } : Jvm.MethodName) ({ cls := "LeaningMarket$Market", name := "passes", desc := "()V" } : Jvm.MethodName)) ∈ lw_all := lw_g (lw_at lw_m6 213 rfl) rfl
theorem q1508 : (Jvm.Cond.code ({ cls := "LeaningMarket$Market", name := "passes", desc := "()V" } : Jvm.MethodName) prog_12_method_19_code (2 : Nat) (Option.none : Option Jvm.ClassFile.FieldType)) ∈ lw_all := lw_g (lw_at lw_m6 214 rfl) rfl
theorem q1509 : (Jvm.Cond.methodLink "LeaningMarket$Market" (147 : Nat) ({ cls := "LeaningMarket$Market", name := "wear", desc := "(I)I" } : Jvm.MethodName)) ∈ lw_all := lw_g (lw_at lw_m6 215 rfl) rfl
theorem q1510 : (Jvm.Cond.instanceMethod ({ cls := "LeaningMarket$Market", name := "wear", desc := "(I)I" } : Jvm.MethodName)) ∈ lw_all := lw_g (lw_at lw_m6 216 rfl) rfl
theorem q1511 : (Jvm.Cond.selects "LeaningMarket$Market" ({ cls := "LeaningMarket$Market", name := "wear", desc := "(I)I" } : Jvm.MethodName) ({ cls := "LeaningMarket$Market", name := "wear", desc := "(I)I" } : Jvm.MethodName)) ∈ lw_all := lw_g (lw_at lw_m6 217 rfl) rfl
theorem q1512 : (Jvm.Cond.code ({ cls := "LeaningMarket$Market", name := "wear", desc := "(I)I" } : Jvm.MethodName) prog_12_method_10_code (2 : Nat) (Option.some Jvm.ClassFile.FieldType.int)) ∈ lw_all := lw_g (lw_at lw_m6 218 rfl) rfl
theorem q1513 : (Jvm.Cond.methodLink "LeaningMarket$Market" (109 : Nat) ({ cls := "LeaningMarket$Market", name := "criesOf", desc := "(I)I" } : Jvm.MethodName)) ∈ lw_all := lw_g (lw_at lw_m6 219 rfl) rfl
theorem q1514 : (Jvm.Cond.instanceMethod ({ cls := "LeaningMarket$Market", name := "criesOf", desc := "(I)I" } : Jvm.MethodName)) ∈ lw_all := lw_g (lw_at lw_m6 220 rfl) rfl
theorem q1515 : (Jvm.Cond.selects "LeaningMarket$Market" ({ cls := "LeaningMarket$Market", name := "criesOf", desc := "(I)I" } : Jvm.MethodName) ({ cls := "LeaningMarket$Market", name := "criesOf", desc := "(I)I" } : Jvm.MethodName)) ∈ lw_all := lw_g (lw_at lw_m6 221 rfl) rfl
theorem q1516 : (Jvm.Cond.code ({ cls := "LeaningMarket$Market", name := "criesOf", desc := "(I)I" } : Jvm.MethodName) prog_12_method_8_code (4 : Nat) (Option.some Jvm.ClassFile.FieldType.int)) ∈ lw_all := lw_g (lw_at lw_m6 222 rfl) rfl
theorem q1517 : (Jvm.Cond.methodLink "LeaningMarket$Market" (102 : Nat) ({ cls := "LeaningMarket$Cry", name := "isOf", desc := "(I)Z" } : Jvm.MethodName)) ∈ lw_all := lw_g (lw_at lw_m6 223 rfl) rfl
theorem q1521 : (Jvm.Cond.methodLink "LeaningMarket$Market" (113 : Nat) ({ cls := "java/lang/Integer", name := "bitCount", desc := "(I)I" } : Jvm.MethodName)) ∈ lw_all := lw_g (lw_at lw_m6 227 rfl) rfl
theorem q1522 : (Jvm.Cond.methodLinkNest "LeaningMarket$Market" (118 : Nat) ({ cls := "LeaningMarket", name := "wearBy", desc := "(IIIIIII)I" } : Jvm.MethodName) "LeaningMarket") ∈ lw_tbl := lw_at lw_m6 228 rfl
theorem q1573 : (Jvm.Cond.methodLink "LeaningMarket$Market" (150 : Nat) ({ cls := "java/lang/Math", name := "max", desc := "(II)I" } : Jvm.MethodName)) ∈ lw_all := lw_g (lw_at lw_m7 39 rfl) rfl
theorem q1578 : (Jvm.Cond.instanceMethod ({ cls := "LeaningMarket$Market", name := "tips", desc := "(I)Z" } : Jvm.MethodName)) ∈ lw_all := lw_g (lw_at lw_m7 44 rfl) rfl
theorem q1579 : (Jvm.Cond.selects "LeaningMarket$Market" ({ cls := "LeaningMarket$Market", name := "tips", desc := "(I)Z" } : Jvm.MethodName) ({ cls := "LeaningMarket$Market", name := "tips", desc := "(I)Z" } : Jvm.MethodName)) ∈ lw_all := lw_g (lw_at lw_m7 45 rfl) rfl
theorem q1580 : (Jvm.Cond.code ({ cls := "LeaningMarket$Market", name := "tips", desc := "(I)Z" } : Jvm.MethodName) prog_12_method_15_code (2 : Nat) (Option.some Jvm.ClassFile.FieldType.boolean)) ∈ lw_all := lw_g (lw_at lw_m7 46 rfl) rfl
theorem q1581 : (Jvm.Cond.methodLink "LeaningMarket$Market" (135 : Nat) ({ cls := "java/util/ArrayList", name := "remove", desc := "(I)Ljava/lang/Object;" } : Jvm.MethodName)) ∈ lw_all := lw_g (lw_at lw_m7 47 rfl) rfl
theorem q1594 : (Jvm.Cond.instanceMethod ({ cls := "LeaningMarket$Market", name := "turns", desc := "()Z" } : Jvm.MethodName)) ∈ lw_all := lw_g (lw_at lw_m7 60 rfl) rfl
theorem q1595 : (Jvm.Cond.selects "LeaningMarket$Market" ({ cls := "LeaningMarket$Market", name := "turns", desc := "()Z" } : Jvm.MethodName) ({ cls := "LeaningMarket$Market", name := "turns", desc := "()Z" } : Jvm.MethodName)) ∈ lw_all := lw_g (lw_at lw_m7 61 rfl) rfl
theorem q1596 : (Jvm.Cond.code ({ cls := "LeaningMarket$Market", name := "turns", desc := "()Z" } : Jvm.MethodName) prog_12_method_17_code (1 : Nat) (Option.some Jvm.ClassFile.FieldType.boolean)) ∈ lw_all := lw_g (lw_at lw_m7 62 rfl) rfl
theorem q1601 : (Jvm.Cond.instanceMethod ({ cls := "LeaningMarket$Market", name := "weighs", desc := "(IIII)Z" } : Jvm.MethodName)) ∈ lw_all := lw_g (lw_at lw_m7 67 rfl) rfl
theorem q1602 : (Jvm.Cond.selects "LeaningMarket$Market" ({ cls := "LeaningMarket$Market", name := "weighs", desc := "(IIII)Z" } : Jvm.MethodName) ({ cls := "LeaningMarket$Market", name := "weighs", desc := "(IIII)Z" } : Jvm.MethodName)) ∈ lw_all := lw_g (lw_at lw_m7 68 rfl) rfl
theorem q1603 : (Jvm.Cond.code ({ cls := "LeaningMarket$Market", name := "weighs", desc := "(IIII)Z" } : Jvm.MethodName) prog_12_method_14_code (7 : Nat) (Option.some Jvm.ClassFile.FieldType.boolean)) ∈ lw_all := lw_g (lw_at lw_m7 69 rfl) rfl
theorem q1604 : (Jvm.Cond.methodLink "LeaningMarket$Market" (125 : Nat) ({ cls := "LeaningMarket$Market", name := "stands", desc := "(IIII)I" } : Jvm.MethodName)) ∈ lw_all := lw_g (lw_at lw_m7 70 rfl) rfl
theorem q1605 : (Jvm.Cond.instanceMethod ({ cls := "LeaningMarket$Market", name := "stands", desc := "(IIII)I" } : Jvm.MethodName)) ∈ lw_all := lw_g (lw_at lw_m7 71 rfl) rfl
theorem q1606 : (Jvm.Cond.selects "LeaningMarket$Market" ({ cls := "LeaningMarket$Market", name := "stands", desc := "(IIII)I" } : Jvm.MethodName) ({ cls := "LeaningMarket$Market", name := "stands", desc := "(IIII)I" } : Jvm.MethodName)) ∈ lw_all := lw_g (lw_at lw_m7 72 rfl) rfl
theorem q1607 : (Jvm.Cond.code ({ cls := "LeaningMarket$Market", name := "stands", desc := "(IIII)I" } : Jvm.MethodName) prog_12_method_5_code (5 : Nat) (Option.some Jvm.ClassFile.FieldType.int)) ∈ lw_all := lw_g (lw_at lw_m7 73 rfl) rfl
theorem q1608 : (Jvm.Cond.methodLinkNest "LeaningMarket$Market" (82 : Nat) ({ cls := "LeaningMarket", name := "standsBy", desc := "(III)I" } : Jvm.MethodName) "LeaningMarket") ∈ lw_tbl := lw_at lw_m7 74 rfl
theorem q1611 : (Jvm.Cond.methodLink "LeaningMarket$Market" (129 : Nat) ({ cls := "LeaningMarket$Cry", name := "<init>", desc := "(IIII)V" } : Jvm.MethodName)) ∈ lw_all := lw_g (lw_at lw_m7 77 rfl) rfl
theorem q1612 : (Jvm.Cond.methodLink "LeaningMarket$Market" (132 : Nat) ({ cls := "LeaningMarket$Market", name := "isCried", desc := "(LLeaningMarket$Cry;)Z" } : Jvm.MethodName)) ∈ lw_all := lw_g (lw_at lw_m7 78 rfl) rfl
theorem q1613 : (Jvm.Cond.privateMethod ({ cls := "LeaningMarket$Market", name := "isCried", desc := "(LLeaningMarket$Cry;)Z" } : Jvm.MethodName)) ∈ lw_tbl := lw_at lw_m7 79 rfl
theorem q1614 : (Jvm.Cond.instanceMethod ({ cls := "LeaningMarket$Market", name := "isCried", desc := "(LLeaningMarket$Cry;)Z" } : Jvm.MethodName)) ∈ lw_all := lw_g (lw_at lw_m7 80 rfl) rfl
theorem q1615 : (Jvm.Cond.code ({ cls := "LeaningMarket$Market", name := "isCried", desc := "(LLeaningMarket$Cry;)Z" } : Jvm.MethodName) prog_12_method_13_code (3 : Nat) (Option.some Jvm.ClassFile.FieldType.boolean)) ∈ lw_all := lw_g (lw_at lw_m7 81 rfl) rfl
theorem q1616 : (Jvm.Cond.methodLink "LeaningMarket$Market" (122 : Nat) ({ cls := "LeaningMarket$Cry", name := "isLike", desc := "(LLeaningMarket$Cry;)Z" } : Jvm.MethodName)) ∈ lw_all := lw_g (lw_at lw_m7 82 rfl) rfl
theorem q1685 : (Jvm.Cond.instanceMethod ({ cls := "LeaningMarket$Market", name := "all", desc := "()I" } : Jvm.MethodName)) ∈ lw_all := lw_g (lw_at lw_m7 151 rfl) rfl
theorem q1686 : (Jvm.Cond.selects "LeaningMarket$Market" ({ cls := "LeaningMarket$Market", name := "all", desc := "()I" } : Jvm.MethodName) ({ cls := "LeaningMarket$Market", name := "all", desc := "()I" } : Jvm.MethodName)) ∈ lw_all := lw_g (lw_at lw_m7 152 rfl) rfl
theorem q1687 : (Jvm.Cond.code ({ cls := "LeaningMarket$Market", name := "all", desc := "()I" } : Jvm.MethodName) prog_12_method_11_code (3 : Nat) (Option.some Jvm.ClassFile.FieldType.int)) ∈ lw_all := lw_g (lw_at lw_m7 153 rfl) rfl
theorem q1689 : (Jvm.Cond.instanceMethod ({ cls := "LeaningMarket$Market", name := "notSo", desc := "()I" } : Jvm.MethodName)) ∈ lw_all := lw_g (lw_at lw_m7 155 rfl) rfl
theorem q1690 : (Jvm.Cond.selects "LeaningMarket$Market" ({ cls := "LeaningMarket$Market", name := "notSo", desc := "()I" } : Jvm.MethodName) ({ cls := "LeaningMarket$Market", name := "notSo", desc := "()I" } : Jvm.MethodName)) ∈ lw_all := lw_g (lw_at lw_m7 156 rfl) rfl
theorem q1691 : (Jvm.Cond.code ({ cls := "LeaningMarket$Market", name := "notSo", desc := "()I" } : Jvm.MethodName) prog_12_method_7_code (3 : Nat) (Option.some Jvm.ClassFile.FieldType.int)) ∈ lw_all := lw_g (lw_at lw_m7 157 rfl) rfl
theorem q1692 : (Jvm.Cond.methodLink "LeaningMarket$Market" (98 : Nat) ({ cls := "LeaningMarket$Market", name := "isSo", desc := "(LLeaningMarket$Cry;)Z" } : Jvm.MethodName)) ∈ lw_all := lw_g (lw_at lw_m7 158 rfl) rfl
theorem q1693 : (Jvm.Cond.instanceMethod ({ cls := "LeaningMarket$Market", name := "isSo", desc := "(LLeaningMarket$Cry;)Z" } : Jvm.MethodName)) ∈ lw_all := lw_g (lw_at lw_m7 159 rfl) rfl
theorem q1694 : (Jvm.Cond.selects "LeaningMarket$Market" ({ cls := "LeaningMarket$Market", name := "isSo", desc := "(LLeaningMarket$Cry;)Z" } : Jvm.MethodName) ({ cls := "LeaningMarket$Market", name := "isSo", desc := "(LLeaningMarket$Cry;)Z" } : Jvm.MethodName)) ∈ lw_all := lw_g (lw_at lw_m7 160 rfl) rfl
theorem q1695 : (Jvm.Cond.code ({ cls := "LeaningMarket$Market", name := "isSo", desc := "(LLeaningMarket$Cry;)Z" } : Jvm.MethodName) prog_12_method_6_code (2 : Nat) (Option.some Jvm.ClassFile.FieldType.boolean)) ∈ lw_all := lw_g (lw_at lw_m7 161 rfl) rfl
theorem q1697 : (Jvm.Cond.instanceMethod ({ cls := "LeaningMarket$Market", name := "inCries", desc := "()I" } : Jvm.MethodName)) ∈ lw_all := lw_g (lw_at lw_m7 163 rfl) rfl
theorem q1698 : (Jvm.Cond.selects "LeaningMarket$Market" ({ cls := "LeaningMarket$Market", name := "inCries", desc := "()I" } : Jvm.MethodName) ({ cls := "LeaningMarket$Market", name := "inCries", desc := "()I" } : Jvm.MethodName)) ∈ lw_all := lw_g (lw_at lw_m7 164 rfl) rfl
theorem q1699 : (Jvm.Cond.code ({ cls := "LeaningMarket$Market", name := "inCries", desc := "()I" } : Jvm.MethodName) prog_12_method_9_code (3 : Nat) (Option.some Jvm.ClassFile.FieldType.int)) ∈ lw_all := lw_g (lw_at lw_m7 165 rfl) rfl
theorem q1765 : (Jvm.Cond.instanceMethod ({ cls := "LeaningMarket$Market", name := "heaviest", desc := "()I" } : Jvm.MethodName)) ∈ lw_all := lw_g (lw_at lw_m7 231 rfl) rfl
theorem q1766 : (Jvm.Cond.selects "LeaningMarket$Market" ({ cls := "LeaningMarket$Market", name := "heaviest", desc := "()I" } : Jvm.MethodName) ({ cls := "LeaningMarket$Market", name := "heaviest", desc := "()I" } : Jvm.MethodName)) ∈ lw_all := lw_g (lw_at lw_m7 232 rfl) rfl
theorem q1767 : (Jvm.Cond.code ({ cls := "LeaningMarket$Market", name := "heaviest", desc := "()I" } : Jvm.MethodName) prog_12_method_12_code (3 : Nat) (Option.some Jvm.ClassFile.FieldType.int)) ∈ lw_all := lw_g (lw_at lw_m7 233 rfl) rfl
theorem q2567 : (Jvm.Cond.castable "LeaningMarket$Market" "java/lang/Object") ∈ lw_tbl := lw_at lw_m11 73 rfl
theorem in_X8 : ∀ w ∈ wsX80, w ∈ lw_all := lw_in wsX80 [605, 607, 609, 611, 613, 615, 617, 619, 621, 623, 625] (by decide +kernel) (by decide +kernel)

/-! LeaningMarketModel -/
set_option maxRecDepth 100000
def RX9 : String := "LeaningMarketModel"
def TX9 : u_T := fun k => match k with
  | 0 => ("LeaningMarketModel", "thrown", "I", false)
  | 1 => ("LeaningMarketModel", "tape", "I", false)
  | 2 => ("LeaningMarketModel", "size", "I", false)
  | 3 => ("LeaningMarketModel", "place", "I", false)
  | 4 => ("LeaningMarketModel", "at", "I", false)
  | 5 => ("LeaningMarketModel", "fault", "I", false)
  | 6 => ("LeaningMarketModel", "faultAt", "I", false)
  | 7 => ("LeaningMarketModel", "clauses", "I", false)
  | 8 => ("LeaningMarketModel", "open", "I", false)
  | 9 => ("LeaningMarketModel", "fed", "[I", true)
  | 10 => ("LeaningMarketModel", "refused", "[I", true)
  | 11 => ("LeaningMarketModel", "readTold", "[I", true)
  | 12 => ("LeaningMarketModel", "told", "[I", true)
  | 13 => ("LeaningMarketModel", "readWeight", "[I", true)
  | 14 => ("LeaningMarketModel", "weight", "[I", true)
  | 15 => ("LeaningMarketModel", "readCry", "[[I", true)
  | 16 => ("LeaningMarketModel", "cry", "[[I", true)
  | 17 => ("LeaningMarketModel", "lawMany", "I", false)
  | 18 => ("LeaningMarketModel", "readLawMany", "I", false)
  | 19 => ("LeaningMarketModel", "law", "[[I", true)
  | 20 => ("LeaningMarketModel", "readLaw", "[[I", true)
  | 21 => ("LeaningMarketModel", "line", "[[I", true)
  | 22 => ("LeaningMarketModel", "readLine", "[[I", true)
  | 23 => ("LeaningMarketModel", "stack", "[I", true)
  | 24 => ("LeaningMarketModel", "known", "[I", true)
  | 25 => ("LeaningMarketModel", "step", "[[I", true)
  | 26 => ("LeaningMarketModel", "steps", "I", false)
  | 27 => ("LeaningMarketModel", "now", "[I", true)
  | 28 => ("LeaningMarketModel", "trial", "[I", true)
  | 29 => ("LeaningMarketModel", "wears", "[I", true)
  | 30 => ("LeaningMarketModel", "before", "[[I", true)
  | 31 => ("LeaningMarketModel", "kept", "[[I", true)
  | 32 => ("LeaningMarketModel", "lines", "I", false)
  | 33 => ("LeaningMarketModel", "works", "I", false)
  | 34 => ("LeaningMarketModel", "refusedSteps", "I", false)
  | 35 => ("LeaningMarketModel", "images", "I", false)
  | 36 => ("LeaningMarketModel", "spot", "I", false)
  | 37 => ("LeaningMarketModel", "begun", "I", false)
  | 38 => ("LeaningMarketModel", "doneSteps", "I", false)
  | 39 => ("LeaningMarketModel", "bestUp", "J", false)
  | 40 => ("LeaningMarketModel", "bestLow", "J", false)
  | 41 => ("LeaningMarketModel", "isFat", "[Z", true)
  | 42 => ("LeaningMarketModel", "fewestFat", "I", false)
  | 43 => ("LeaningMarketModel", "by", "[I", true)
  | 44 => ("LeaningMarketModel", "seen", "[I", true)
  | _ => ("LeaningMarketModel", "lots", "I", false)
def tyX9 : Nat → FieldType := fun k => match k with
  | 0 => .int
  | 1 => .int
  | 2 => .int
  | 3 => .int
  | 4 => .int
  | 5 => .int
  | 6 => .int
  | 7 => .int
  | 8 => .int
  | 9 => .array .int
  | 10 => .array .int
  | 11 => .array .int
  | 12 => .array .int
  | 13 => .array .int
  | 14 => .array .int
  | 15 => .array (.array .int)
  | 16 => .array (.array .int)
  | 17 => .int
  | 18 => .int
  | 19 => .array (.array .int)
  | 20 => .array (.array .int)
  | 21 => .array (.array .int)
  | 22 => .array (.array .int)
  | 23 => .array .int
  | 24 => .array .int
  | 25 => .array (.array .int)
  | 26 => .int
  | 27 => .array .int
  | 28 => .array .int
  | 29 => .array .int
  | 30 => .array (.array .int)
  | 31 => .array (.array .int)
  | 32 => .int
  | 33 => .int
  | 34 => .int
  | 35 => .int
  | 36 => .int
  | 37 => .int
  | 38 => .int
  | 39 => .long
  | 40 => .long
  | 41 => .array .boolean
  | 42 => .int
  | 43 => .array .int
  | 44 => .array .int
  | _ => .int
abbrev wsX90 : List Cond := u_ws RX9 TX9 46
set_option maxRecDepth 100000 in
theorem nmX9 : ∀ a, a < 46 → ∀ b, b < 46 → a ≠ b → (TX9 a).2.1 ≠ (TX9 b).2.1 := by decide +kernel
set_option maxRecDepth 100000 in
theorem tyX9_ok : ∀ k, k < 46 → parseFieldDescriptor (TX9 k).2.2.1 = some (tyX9 k) := by decide +kernel
abbrev cX9_init : ByteArray := prog_32_method_1_code
def yX9_init : MethodName := ⟨RX9, "<init>", "()V"⟩
abbrev cX9_tellsNothing : ByteArray := prog_32_method_2_code
def yX9_tellsNothing : MethodName := ⟨RX9, "tellsNothing", "()V"⟩
abbrev cX9_beginsAnew : ByteArray := prog_32_method_33_code
def yX9_beginsAnew : MethodName := ⟨RX9, "beginsAnew", "()V"⟩
abbrev cX9_lays : ByteArray := prog_32_method_31_code
def yX9_lays : MethodName := ⟨RX9, "lays", "([[I[[II)V"⟩
abbrev cX9_thrown : ByteArray := prog_32_method_3_code
def yX9_thrown : MethodName := ⟨RX9, "thrown", "()I"⟩
abbrev cX9_feed : ByteArray := prog_32_method_9_code
def yX9_feed : MethodName := ⟨RX9, "feed", "(IIIII)I"⟩
abbrev cX9_market : ByteArray := prog_32_method_30_code
def yX9_market : MethodName := ⟨RX9, "market", "(I)I"⟩
abbrev cX9_in : ByteArray := prog_32_method_5_code
def yX9_in : MethodName := ⟨RX9, "in", "(III)Z"⟩
abbrev cX9_bad : ByteArray := prog_32_method_4_code
def yX9_bad : MethodName := ⟨RX9, "bad", "(ZII)Z"⟩
abbrev cX9_starts : ByteArray := prog_32_method_23_code
def yX9_starts : MethodName := ⟨RX9, "starts", "(I)V"⟩
abbrev cX9_blanks : ByteArray := prog_32_method_11_code
def yX9_blanks : MethodName := ⟨RX9, "blanks", "()V"⟩
abbrev cX9_byteAt : ByteArray := prog_32_method_10_code
def yX9_byteAt : MethodName := ⟨RX9, "byteAt", "(I)I"⟩
abbrev cX9_clause : ByteArray := prog_32_method_29_code
def yX9_clause : MethodName := ⟨RX9, "clause", "()V"⟩
abbrev cX9_kindHere : ByteArray := prog_32_method_26_code
def yX9_kindHere : MethodName := ⟨RX9, "kindHere", "()I"⟩
abbrev cX9_isWord : ByteArray := prog_32_method_18_code
def yX9_isWord : MethodName := ⟨RX9, "isWord", "(IIIIII)Z"⟩
abbrev cX9_wordHere : ByteArray := prog_32_method_16_code
def yX9_wordHere : MethodName := ⟨RX9, "wordHere", "()I"⟩
abbrev cX9_isSmall : ByteArray := prog_32_method_14_code
def yX9_isSmall : MethodName := ⟨RX9, "isSmall", "(I)Z"⟩
abbrev cX9_six : ByteArray := prog_32_method_17_code
def yX9_six : MethodName := ⟨RX9, "six", "(IIIIII)I"⟩
abbrev cX9_wrong : ByteArray := prog_32_method_12_code
def yX9_wrong : MethodName := ⟨RX9, "wrong", "(II)V"⟩
abbrev cX9_mostOf : ByteArray := prog_32_method_27_code
def yX9_mostOf : MethodName := ⟨RX9, "mostOf", "(I)I"⟩
abbrev cX9_skipWord : ByteArray := prog_32_method_19_code
def yX9_skipWord : MethodName := ⟨RX9, "skipWord", "()V"⟩
abbrev cX9_number : ByteArray := prog_32_method_15_code
def yX9_number : MethodName := ⟨RX9, "number", "(II)I"⟩
abbrev cX9_isDigit : ByteArray := prog_32_method_13_code
def yX9_isDigit : MethodName := ⟨RX9, "isDigit", "(I)Z"⟩
abbrev cX9_otherThing : ByteArray := prog_32_method_28_code
def yX9_otherThing : MethodName := ⟨RX9, "otherThing", "(II)I"⟩
abbrev cX9_sign : ByteArray := prog_32_method_21_code
def yX9_sign : MethodName := ⟨RX9, "sign", "(I)V"⟩
abbrev cX9_ends : ByteArray := prog_32_method_24_code
def yX9_ends : MethodName := ⟨RX9, "ends", "()I"⟩
abbrev cX9_law : ByteArray := prog_32_method_40_code
def yX9_law : MethodName := ⟨RX9, "law", "(I)I"⟩
abbrev cX9_sum : ByteArray := prog_32_method_36_code
def yX9_sum : MethodName := ⟨RX9, "sum", "()V"⟩
abbrev cX9_product : ByteArray := prog_32_method_37_code
def yX9_product : MethodName := ⟨RX9, "product", "()V"⟩
abbrev cX9_one : ByteArray := prog_32_method_39_code
def yX9_one : MethodName := ⟨RX9, "one", "()V"⟩
abbrev cX9_opensOne : ByteArray := prog_32_method_35_code
def yX9_opensOne : MethodName := ⟨RX9, "opensOne", "()Z"⟩
abbrev cX9_notes : ByteArray := prog_32_method_34_code
def yX9_notes : MethodName := ⟨RX9, "notes", "(II)V"⟩
abbrev cX9_knownHere : ByteArray := prog_32_method_38_code
def yX9_knownHere : MethodName := ⟨RX9, "knownHere", "()I"⟩
abbrev cX9_takes : ByteArray := prog_32_method_20_code
def yX9_takes : MethodName := ⟨RX9, "takes", "(IIIIII)Z"⟩
abbrev cX9_isSeven : ByteArray := prog_32_method_25_code
def yX9_isSeven : MethodName := ⟨RX9, "isSeven", "(II)Z"⟩
abbrev cX9_takesSign : ByteArray := prog_32_method_22_code
def yX9_takesSign : MethodName := ⟨RX9, "takesSign", "(I)Z"⟩
abbrev cX9_book : ByteArray := prog_32_method_45_code
def yX9_book : MethodName := ⟨RX9, "book", "(I)I"⟩
abbrev cX9_fault : ByteArray := prog_32_method_46_code
def yX9_fault : MethodName := ⟨RX9, "fault", "()I"⟩
abbrev cX9_work : ByteArray := prog_32_method_61_code
def yX9_work : MethodName := ⟨RX9, "work", "(I)I"⟩
abbrev cX9_readsStep : ByteArray := prog_32_method_44_code
def yX9_readsStep : MethodName := ⟨RX9, "readsStep", "()V"⟩
abbrev cX9_stepHere : ByteArray := prog_32_method_43_code
def yX9_stepHere : MethodName := ⟨RX9, "stepHere", "()I"⟩
abbrev cX9_copies : ByteArray := prog_32_method_32_code
def yX9_copies : MethodName := ⟨RX9, "copies", "([I[I)V"⟩
abbrev cX9_goes : ByteArray := prog_32_method_60_code
def yX9_goes : MethodName := ⟨RX9, "goes", "(II)V"⟩
abbrev cX9_does : ByteArray := prog_32_method_59_code
def yX9_does : MethodName := ⟨RX9, "does", "([I[I)Z"⟩
abbrev cX9_weighs : ByteArray := prog_32_method_55_code
def yX9_weighs : MethodName := ⟨RX9, "weighs", "([IIIII)Z"⟩
abbrev cX9_standsIn : ByteArray := prog_32_method_52_code
def yX9_standsIn : MethodName := ⟨RX9, "standsIn", "([IIIII)I"⟩
abbrev cX9_standsBy : ByteArray := prog_32_method_51_code
def yX9_standsBy : MethodName := ⟨RX9, "standsBy", "(IIII)I"⟩
abbrev cX9_isCry : ByteArray := prog_32_method_53_code
def yX9_isCry : MethodName := ⟨RX9, "isCry", "([IIIII)Z"⟩
abbrev cX9_cries : ByteArray := prog_32_method_54_code
def yX9_cries : MethodName := ⟨RX9, "cries", "([IIIII)V"⟩
abbrev cX9_tips : ByteArray := prog_32_method_56_code
def yX9_tips : MethodName := ⟨RX9, "tips", "([II)Z"⟩
abbrev cX9_feeds : ByteArray := prog_32_method_57_code
def yX9_feeds : MethodName := ⟨RX9, "feeds", "([III)Z"⟩
abbrev cX9_less : ByteArray := prog_32_method_6_code
def yX9_less : MethodName := ⟨RX9, "less", "(II)I"⟩
abbrev cX9_dayEnds : ByteArray := prog_32_method_58_code
def yX9_dayEnds : MethodName := ⟨RX9, "dayEnds", "([I)V"⟩
abbrev cX9_wearOf : ByteArray := prog_32_method_50_code
def yX9_wearOf : MethodName := ⟨RX9, "wearOf", "([II)I"⟩
abbrev cX9_criesOf : ByteArray := prog_32_method_49_code
def yX9_criesOf : MethodName := ⟨RX9, "criesOf", "([II)I"⟩
abbrev cX9_ones : ByteArray := prog_32_method_48_code
def yX9_ones : MethodName := ⟨RX9, "ones", "(I)I"⟩
abbrev cX9_wearBy : ByteArray := prog_32_method_47_code
def yX9_wearBy : MethodName := ⟨RX9, "wearBy", "(IIIIIII)I"⟩
abbrev cX9_byLaw : ByteArray := prog_32_method_42_code
def yX9_byLaw : MethodName := ⟨RX9, "byLaw", "()I"⟩
abbrev cX9_by : ByteArray := prog_32_method_41_code
def yX9_by : MethodName := ⟨RX9, "by", "(III)I"⟩
abbrev cX9_more : ByteArray := prog_32_method_7_code
def yX9_more : MethodName := ⟨RX9, "more", "(II)I"⟩
abbrev cX9_undo : ByteArray := prog_32_method_62_code
def yX9_undo : MethodName := ⟨RX9, "undo", "()I"⟩
abbrev cX9_told : ByteArray := prog_32_method_66_code
def yX9_told : MethodName := ⟨RX9, "told", "(I)I"⟩
abbrev cX9_weightIn : ByteArray := prog_32_method_63_code
def yX9_weightIn : MethodName := ⟨RX9, "weightIn", "([I)I"⟩
abbrev cX9_notSo : ByteArray := prog_32_method_64_code
def yX9_notSo : MethodName := ⟨RX9, "notSo", "([I)I"⟩
abbrev cX9_criedIn : ByteArray := prog_32_method_65_code
def yX9_criedIn : MethodName := ⟨RX9, "criedIn", "([I)I"⟩
abbrev cX9_thing : ByteArray := prog_32_method_68_code
def yX9_thing : MethodName := ⟨RX9, "thing", "(II)I"⟩
abbrev cX9_isThing : ByteArray := prog_32_method_67_code
def yX9_isThing : MethodName := ⟨RX9, "isThing", "(I)Z"⟩
abbrev cX9_cry : ByteArray := prog_32_method_69_code
def yX9_cry : MethodName := ⟨RX9, "cry", "(II)I"⟩
abbrev cX9_stands : ByteArray := prog_32_method_70_code
def yX9_stands : MethodName := ⟨RX9, "stands", "(IIII)I"⟩
abbrev cX9_would : ByteArray := prog_32_method_71_code
def yX9_would : MethodName := ⟨RX9, "would", "(IIIIIII)I"⟩
abbrev cX9_ahead : ByteArray := prog_32_method_73_code
def yX9_ahead : MethodName := ⟨RX9, "ahead", "(II)I"⟩
abbrev cX9_heaviestIn : ByteArray := prog_32_method_72_code
def yX9_heaviestIn : MethodName := ⟨RX9, "heaviestIn", "([I)I"⟩
abbrev cX9_worth : ByteArray := prog_32_method_80_code
def yX9_worth : MethodName := ⟨RX9, "worth", "(III)J"⟩
abbrev cX9_worths : ByteArray := prog_32_method_76_code
def yX9_worths : MethodName := ⟨RX9, "worths", "(II)V"⟩
abbrev cX9_chains : ByteArray := prog_32_method_75_code
def yX9_chains : MethodName := ⟨RX9, "chains", "(IIIJJ)V"⟩
abbrev cX9_keeps : ByteArray := prog_32_method_74_code
def yX9_keeps : MethodName := ⟨RX9, "keeps", "(JJ)V"⟩
abbrev cX9_has : ByteArray := prog_32_method_8_code
def yX9_has : MethodName := ⟨RX9, "has", "(II)Z"⟩
abbrev cX9_partOf : ByteArray := prog_32_method_79_code
def yX9_partOf : MethodName := ⟨RX9, "partOf", "(JJI)J"⟩
abbrev cX9_fattest : ByteArray := prog_32_method_81_code
def yX9_fattest : MethodName := ⟨RX9, "fattest", "(I)J"⟩
abbrev cX9_allRings : ByteArray := prog_32_method_78_code
def yX9_allRings : MethodName := ⟨RX9, "allRings", "()V"⟩
abbrev cX9_rings : ByteArray := prog_32_method_77_code
def yX9_rings : MethodName := ⟨RX9, "rings", "(IIIIJJ)V"⟩
abbrev cX9_fat : ByteArray := prog_32_method_82_code
def yX9_fat : MethodName := ⟨RX9, "fat", "()I"⟩
abbrev cX9_mend : ByteArray := prog_32_method_84_code
def yX9_mend : MethodName := ⟨RX9, "mend", "()I"⟩
abbrev cX9_isMended : ByteArray := prog_32_method_83_code
def yX9_isMended : MethodName := ⟨RX9, "isMended", "(I)Z"⟩
abbrev cX9_above : ByteArray := prog_32_method_85_code
def yX9_above : MethodName := ⟨RX9, "above", "(I)I"⟩
abbrev cX9_match : ByteArray := prog_32_method_90_code
def yX9_match : MethodName := ⟨RX9, "match", "(II)I"⟩
abbrev cX9_isSet : ByteArray := prog_32_method_89_code
def yX9_isSet : MethodName := ⟨RX9, "isSet", "(I)Z"⟩
abbrev cX9_everyThing : ByteArray := prog_32_method_88_code
def yX9_everyThing : MethodName := ⟨RX9, "everyThing", "()I"⟩
abbrev cX9_laysAmounts : ByteArray := prog_32_method_87_code
def yX9_laysAmounts : MethodName := ⟨RX9, "laysAmounts", "(I)V"⟩
abbrev cX9_laysFrom : ByteArray := prog_32_method_86_code
def yX9_laysFrom : MethodName := ⟨RX9, "laysFrom", "(IIII)V"⟩
abbrev cX9_fewest : ByteArray := prog_32_method_91_code
def yX9_fewest : MethodName := ⟨RX9, "fewest", "(I)I"⟩
abbrev cX9_level : ByteArray := prog_32_method_93_code
def yX9_level : MethodName := ⟨RX9, "level", "(II)I"⟩
abbrev cX9_heavy : ByteArray := prog_32_method_92_code
def yX9_heavy : MethodName := ⟨RX9, "heavy", "(I)I"⟩
abbrev cX9_fits : ByteArray := prog_32_method_95_code
def yX9_fits : MethodName := ⟨RX9, "fits", "(I)I"⟩
abbrev cX9_isBeam : ByteArray := prog_32_method_94_code
def yX9_isBeam : MethodName := ⟨RX9, "isBeam", "(II)Z"⟩
abbrev cX9_look : ByteArray := prog_32_method_97_code
def yX9_look : MethodName := ⟨RX9, "look", "(I)I"⟩
abbrev cX9_worstOf : ByteArray := prog_32_method_96_code
def yX9_worstOf : MethodName := ⟨RX9, "worstOf", "(II)I"⟩
abbrev cX9_falsely : ByteArray := prog_32_method_98_code
def yX9_falsely : MethodName := ⟨RX9, "falsely", "(I)I"⟩
abbrev cX9_sellers : ByteArray := prog_32_method_101_code
def yX9_sellers : MethodName := ⟨RX9, "sellers", "(III)I"⟩
abbrev cX9_isBest : ByteArray := prog_32_method_100_code
def yX9_isBest : MethodName := ⟨RX9, "isBest", "(IIII)Z"⟩
abbrev cX9_hasBy : ByteArray := prog_32_method_99_code
def yX9_hasBy : MethodName := ⟨RX9, "hasBy", "(IIII)I"⟩
abbrev cX9_even : ByteArray := prog_32_method_102_code
def yX9_even : MethodName := ⟨RX9, "even", "(III)J"⟩
abbrev cX9_share : ByteArray := prog_32_method_104_code
def yX9_share : MethodName := ⟨RX9, "share", "(III)I"⟩
abbrev cX9_givenBy : ByteArray := prog_32_method_103_code
def yX9_givenBy : MethodName := ⟨RX9, "givenBy", "(II)I"⟩
abbrev cX9_heaviest : ByteArray := prog_32_method_105_code
def yX9_heaviest : MethodName := ⟨RX9, "heaviest", "(I)I"⟩
abbrev cX9_alike : ByteArray := prog_32_method_106_code
def yX9_alike : MethodName := ⟨RX9, "alike", "(I)I"⟩
abbrev cX9_against : ByteArray := prog_32_method_107_code
def yX9_against : MethodName := ⟨RX9, "against", "(II)I"⟩
abbrev cX9_fair : ByteArray := prog_32_method_111_code
def yX9_fair : MethodName := ⟨RX9, "fair", "(IIII)I"⟩
abbrev cX9_isFair : ByteArray := prog_32_method_110_code
def yX9_isFair : MethodName := ⟨RX9, "isFair", "(II)Z"⟩
abbrev cX9_fairBy : ByteArray := prog_32_method_109_code
def yX9_fairBy : MethodName := ⟨RX9, "fairBy", "(III)V"⟩
abbrev cX9_draw : ByteArray := prog_32_method_108_code
def yX9_draw : MethodName := ⟨RX9, "draw", "(I)I"⟩
abbrev cX9_span : ByteArray := prog_32_method_112_code
def yX9_span : MethodName := ⟨RX9, "span", "(IIIIII)I"⟩
abbrev cX9_image : ByteArray := prog_32_method_115_code
def yX9_image : MethodName := ⟨RX9, "image", "()I"⟩
abbrev cX9_putsAll : ByteArray := prog_32_method_114_code
def yX9_putsAll : MethodName := ⟨RX9, "putsAll", "([IZ)V"⟩
abbrev cX9_puts : ByteArray := prog_32_method_113_code
def yX9_puts : MethodName := ⟨RX9, "puts", "([IIZ)I"⟩
abbrev cX9_restore : ByteArray := prog_32_method_116_code
def yX9_restore : MethodName := ⟨RX9, "restore", "()I"⟩
abbrev cX9_status : ByteArray := prog_32_method_117_code
def yX9_status : MethodName := ⟨RX9, "status", "(I)I"⟩
abbrev cX9_count : ByteArray := prog_32_method_118_code
def yX9_count : MethodName := ⟨RX9, "count", "(I)I"⟩
theorem q123 : (Jvm.Cond.initialized "LeaningMarketModel") ∈ lw_all := lw_g (lw_at lw_m1 29 rfl) rfl
theorem q714 : (Jvm.Cond.selects "LeaningMarketModel" ({ cls := "java/lang/Object", name := "getClass", desc := "()Ljava/lang/Class;" } : Jvm.MethodName) ({ cls := "java/lang/Object", name := "getClass", desc := "()Ljava/lang/Class;" } : Jvm.MethodName)) ∈ lw_all := lw_g (lw_at lw_m3 140 rfl) rfl
theorem q1945 : (Jvm.Cond.instantiable "LeaningMarketModel" (46 : Nat)) ∈ lw_all := lw_g (lw_at lw_m8 171 rfl) rfl
theorem q1947 : (Jvm.Cond.instanceMethod ({ cls := "LeaningMarketModel", name := "<init>", desc := "()V" } : Jvm.MethodName)) ∈ lw_all := lw_g (lw_at lw_m8 173 rfl) rfl
theorem q1948 : (Jvm.Cond.code ({ cls := "LeaningMarketModel", name := "<init>", desc := "()V" } : Jvm.MethodName) prog_32_method_1_code (1 : Nat) (Option.none : Option Jvm.ClassFile.FieldType)) ∈ lw_all := lw_g (lw_at lw_m8 174 rfl) rfl
theorem q1949 : (Jvm.Cond.methodLink "LeaningMarketModel" (1 : Nat) ({ cls := "java/lang/Object", name := "<init>", desc := "()V" } : Jvm.MethodName)) ∈ lw_all := lw_g (lw_at lw_m8 175 rfl) rfl
theorem q1950 : (Jvm.Cond.classLink "LeaningMarketModel" (32 : Nat) "[[I") ∈ lw_all := lw_g (lw_at lw_m8 176 rfl) rfl
theorem q1952 : (Jvm.Cond.methodLink "LeaningMarketModel" (86 : Nat) ({ cls := "LeaningMarketModel", name := "tellsNothing", desc := "()V" } : Jvm.MethodName)) ∈ lw_all := lw_g (lw_at lw_m8 178 rfl) rfl
theorem q1953 : (Jvm.Cond.privateMethod ({ cls := "LeaningMarketModel", name := "tellsNothing", desc := "()V" } : Jvm.MethodName)) ∈ lw_tbl := lw_at lw_m8 179 rfl
theorem q1954 : (Jvm.Cond.instanceMethod ({ cls := "LeaningMarketModel", name := "tellsNothing", desc := "()V" } : Jvm.MethodName)) ∈ lw_all := lw_g (lw_at lw_m8 180 rfl) rfl
theorem q1955 : (Jvm.Cond.code ({ cls := "LeaningMarketModel", name := "tellsNothing", desc := "()V" } : Jvm.MethodName) prog_32_method_2_code (1 : Nat) (Option.none : Option Jvm.ClassFile.FieldType)) ∈ lw_all := lw_g (lw_at lw_m8 181 rfl) rfl
theorem q1956 : (Jvm.Cond.methodLink "LeaningMarketModel" (89 : Nat) ({ cls := "LeaningMarketModel", name := "beginsAnew", desc := "()V" } : Jvm.MethodName)) ∈ lw_all := lw_g (lw_at lw_m8 182 rfl) rfl
theorem q1957 : (Jvm.Cond.privateMethod ({ cls := "LeaningMarketModel", name := "beginsAnew", desc := "()V" } : Jvm.MethodName)) ∈ lw_tbl := lw_at lw_m8 183 rfl
theorem q1958 : (Jvm.Cond.instanceMethod ({ cls := "LeaningMarketModel", name := "beginsAnew", desc := "()V" } : Jvm.MethodName)) ∈ lw_all := lw_g (lw_at lw_m8 184 rfl) rfl
theorem q1959 : (Jvm.Cond.code ({ cls := "LeaningMarketModel", name := "beginsAnew", desc := "()V" } : Jvm.MethodName) prog_32_method_33_code (3 : Nat) (Option.none : Option Jvm.ClassFile.FieldType)) ∈ lw_all := lw_g (lw_at lw_m8 185 rfl) rfl
theorem q1960 : (Jvm.Cond.methodLink "LeaningMarketModel" (184 : Nat) ({ cls := "LeaningMarketModel", name := "lays", desc := "([[I[[II)V" } : Jvm.MethodName)) ∈ lw_all := lw_g (lw_at lw_m8 186 rfl) rfl
theorem q1961 : (Jvm.Cond.static ({ cls := "LeaningMarketModel", name := "lays", desc := "([[I[[II)V" } : Jvm.MethodName)) ∈ lw_all := lw_g (lw_at lw_m8 187 rfl) rfl
theorem q1962 : (Jvm.Cond.code ({ cls := "LeaningMarketModel", name := "lays", desc := "([[I[[II)V" } : Jvm.MethodName) prog_32_method_31_code (5 : Nat) (Option.none : Option Jvm.ClassFile.FieldType)) ∈ lw_all := lw_g (lw_at lw_m8 188 rfl) rfl
theorem q1963 : (Jvm.Cond.fieldLink "LeaningMarketModel" (92 : Nat) "LeaningMarketModel" "thrown" "I") ∈ lw_all := lw_g (lw_at lw_m8 189 rfl) rfl
theorem q1964 : (Jvm.Cond.fieldLink "LeaningMarketModel" (95 : Nat) "LeaningMarketModel" "tape" "I") ∈ lw_all := lw_g (lw_at lw_m8 190 rfl) rfl
theorem q1965 : (Jvm.Cond.fieldLink "LeaningMarketModel" (98 : Nat) "LeaningMarketModel" "size" "I") ∈ lw_all := lw_g (lw_at lw_m8 191 rfl) rfl
theorem q1966 : (Jvm.Cond.fieldLink "LeaningMarketModel" (9 : Nat) "LeaningMarketModel" "place" "I") ∈ lw_all := lw_g (lw_at lw_m8 192 rfl) rfl
theorem q1967 : (Jvm.Cond.fieldLink "LeaningMarketModel" (101 : Nat) "LeaningMarketModel" "at" "I") ∈ lw_all := lw_g (lw_at lw_m8 193 rfl) rfl
theorem q1968 : (Jvm.Cond.fieldLink "LeaningMarketModel" (108 : Nat) "LeaningMarketModel" "fault" "I") ∈ lw_all := lw_g (lw_at lw_m8 194 rfl) rfl
theorem q1969 : (Jvm.Cond.fieldLink "LeaningMarketModel" (111 : Nat) "LeaningMarketModel" "faultAt" "I") ∈ lw_all := lw_g (lw_at lw_m8 195 rfl) rfl
theorem q1970 : (Jvm.Cond.fieldLink "LeaningMarketModel" (148 : Nat) "LeaningMarketModel" "clauses" "I") ∈ lw_all := lw_g (lw_at lw_m8 196 rfl) rfl
theorem q1971 : (Jvm.Cond.fieldLink "LeaningMarketModel" (151 : Nat) "LeaningMarketModel" "open" "I") ∈ lw_all := lw_g (lw_at lw_m8 197 rfl) rfl
theorem q1972 : (Jvm.Cond.fieldLink "LeaningMarketModel" (13 : Nat) "LeaningMarketModel" "fed" "[I") ∈ lw_all := lw_g (lw_at lw_m8 198 rfl) rfl
theorem q1973 : (Jvm.Cond.fieldLink "LeaningMarketModel" (17 : Nat) "LeaningMarketModel" "refused" "[I") ∈ lw_all := lw_g (lw_at lw_m8 199 rfl) rfl
theorem q1974 : (Jvm.Cond.fieldLink "LeaningMarketModel" (20 : Nat) "LeaningMarketModel" "readTold" "[I") ∈ lw_all := lw_g (lw_at lw_m8 200 rfl) rfl
theorem q1975 : (Jvm.Cond.fieldLink "LeaningMarketModel" (23 : Nat) "LeaningMarketModel" "told" "[I") ∈ lw_all := lw_g (lw_at lw_m8 201 rfl) rfl
theorem q1976 : (Jvm.Cond.fieldLink "LeaningMarketModel" (26 : Nat) "LeaningMarketModel" "readWeight" "[I") ∈ lw_all := lw_g (lw_at lw_m8 202 rfl) rfl
theorem q1977 : (Jvm.Cond.fieldLink "LeaningMarketModel" (29 : Nat) "LeaningMarketModel" "weight" "[I") ∈ lw_all := lw_g (lw_at lw_m8 203 rfl) rfl
theorem q1978 : (Jvm.Cond.fieldLink "LeaningMarketModel" (34 : Nat) "LeaningMarketModel" "readCry" "[[I") ∈ lw_all := lw_g (lw_at lw_m8 204 rfl) rfl
theorem q1979 : (Jvm.Cond.fieldLink "LeaningMarketModel" (37 : Nat) "LeaningMarketModel" "cry" "[[I") ∈ lw_all := lw_g (lw_at lw_m8 205 rfl) rfl
theorem q1980 : (Jvm.Cond.fieldLink "LeaningMarketModel" (188 : Nat) "LeaningMarketModel" "lawMany" "I") ∈ lw_all := lw_g (lw_at lw_m8 206 rfl) rfl
theorem q1981 : (Jvm.Cond.fieldLink "LeaningMarketModel" (203 : Nat) "LeaningMarketModel" "readLawMany" "I") ∈ lw_all := lw_g (lw_at lw_m8 207 rfl) rfl
theorem q1982 : (Jvm.Cond.fieldLink "LeaningMarketModel" (40 : Nat) "LeaningMarketModel" "law" "[[I") ∈ lw_all := lw_g (lw_at lw_m8 208 rfl) rfl
theorem q1983 : (Jvm.Cond.fieldLink "LeaningMarketModel" (43 : Nat) "LeaningMarketModel" "readLaw" "[[I") ∈ lw_all := lw_g (lw_at lw_m8 209 rfl) rfl
theorem q1984 : (Jvm.Cond.fieldLink "LeaningMarketModel" (46 : Nat) "LeaningMarketModel" "line" "[[I") ∈ lw_all := lw_g (lw_at lw_m8 210 rfl) rfl
theorem q1985 : (Jvm.Cond.fieldLink "LeaningMarketModel" (49 : Nat) "LeaningMarketModel" "readLine" "[[I") ∈ lw_all := lw_g (lw_at lw_m8 211 rfl) rfl
theorem q1986 : (Jvm.Cond.fieldLink "LeaningMarketModel" (52 : Nat) "LeaningMarketModel" "stack" "[I") ∈ lw_all := lw_g (lw_at lw_m8 212 rfl) rfl
theorem q1987 : (Jvm.Cond.fieldLink "LeaningMarketModel" (55 : Nat) "LeaningMarketModel" "known" "[I") ∈ lw_all := lw_g (lw_at lw_m8 213 rfl) rfl
theorem q1988 : (Jvm.Cond.fieldLink "LeaningMarketModel" (58 : Nat) "LeaningMarketModel" "step" "[[I") ∈ lw_all := lw_g (lw_at lw_m8 214 rfl) rfl
theorem q1989 : (Jvm.Cond.fieldLink "LeaningMarketModel" (247 : Nat) "LeaningMarketModel" "steps" "I") ∈ lw_all := lw_g (lw_at lw_m8 215 rfl) rfl
theorem q1990 : (Jvm.Cond.fieldLink "LeaningMarketModel" (61 : Nat) "LeaningMarketModel" "now" "[I") ∈ lw_all := lw_g (lw_at lw_m8 216 rfl) rfl
theorem q1991 : (Jvm.Cond.fieldLink "LeaningMarketModel" (64 : Nat) "LeaningMarketModel" "trial" "[I") ∈ lw_all := lw_g (lw_at lw_m8 217 rfl) rfl
theorem q1992 : (Jvm.Cond.fieldLink "LeaningMarketModel" (67 : Nat) "LeaningMarketModel" "wears" "[I") ∈ lw_all := lw_g (lw_at lw_m8 218 rfl) rfl
theorem q1993 : (Jvm.Cond.fieldLink "LeaningMarketModel" (70 : Nat) "LeaningMarketModel" "before" "[[I") ∈ lw_all := lw_g (lw_at lw_m8 219 rfl) rfl
theorem q1994 : (Jvm.Cond.fieldLink "LeaningMarketModel" (73 : Nat) "LeaningMarketModel" "kept" "[[I") ∈ lw_all := lw_g (lw_at lw_m8 220 rfl) rfl
theorem q1995 : (Jvm.Cond.fieldLink "LeaningMarketModel" (191 : Nat) "LeaningMarketModel" "lines" "I") ∈ lw_all := lw_g (lw_at lw_m8 221 rfl) rfl
theorem q1996 : (Jvm.Cond.fieldLink "LeaningMarketModel" (194 : Nat) "LeaningMarketModel" "works" "I") ∈ lw_all := lw_g (lw_at lw_m8 222 rfl) rfl
theorem q1997 : (Jvm.Cond.fieldLink "LeaningMarketModel" (197 : Nat) "LeaningMarketModel" "refusedSteps" "I") ∈ lw_all := lw_g (lw_at lw_m8 223 rfl) rfl
theorem q1998 : (Jvm.Cond.fieldLink "LeaningMarketModel" (200 : Nat) "LeaningMarketModel" "images" "I") ∈ lw_all := lw_g (lw_at lw_m8 224 rfl) rfl
theorem q1999 : (Jvm.Cond.fieldLink "LeaningMarketModel" (418 : Nat) "LeaningMarketModel" "spot" "I") ∈ lw_all := lw_g (lw_at lw_m8 225 rfl) rfl
theorem q2000 : (Jvm.Cond.fieldLink "LeaningMarketModel" (301 : Nat) "LeaningMarketModel" "begun" "I") ∈ lw_all := lw_g (lw_at lw_m8 226 rfl) rfl
theorem q2001 : (Jvm.Cond.fieldLink "LeaningMarketModel" (311 : Nat) "LeaningMarketModel" "doneSteps" "I") ∈ lw_all := lw_g (lw_at lw_m8 227 rfl) rfl
theorem q2002 : (Jvm.Cond.fieldLink "LeaningMarketModel" (338 : Nat) "LeaningMarketModel" "bestUp" "J") ∈ lw_all := lw_g (lw_at lw_m8 228 rfl) rfl
theorem q2003 : (Jvm.Cond.fieldLink "LeaningMarketModel" (334 : Nat) "LeaningMarketModel" "bestLow" "J") ∈ lw_all := lw_g (lw_at lw_m8 229 rfl) rfl
theorem q2004 : (Jvm.Cond.fieldLink "LeaningMarketModel" (76 : Nat) "LeaningMarketModel" "isFat" "[Z") ∈ lw_all := lw_g (lw_at lw_m8 230 rfl) rfl
theorem q2005 : (Jvm.Cond.fieldLink "LeaningMarketModel" (356 : Nat) "LeaningMarketModel" "fewestFat" "I") ∈ lw_all := lw_g (lw_at lw_m8 231 rfl) rfl
theorem q2006 : (Jvm.Cond.fieldLink "LeaningMarketModel" (80 : Nat) "LeaningMarketModel" "by" "[I") ∈ lw_all := lw_g (lw_at lw_m8 232 rfl) rfl
theorem q2007 : (Jvm.Cond.fieldLink "LeaningMarketModel" (83 : Nat) "LeaningMarketModel" "seen" "[I") ∈ lw_all := lw_g (lw_at lw_m8 233 rfl) rfl
theorem q2008 : (Jvm.Cond.fieldLink "LeaningMarketModel" (404 : Nat) "LeaningMarketModel" "lots" "I") ∈ lw_all := lw_g (lw_at lw_m8 234 rfl) rfl
theorem q2009 : (Jvm.Cond.lays "LeaningMarketModel" "LeaningMarketModel" "thrown" "I") ∈ lw_all := lw_g (lw_at lw_m8 235 rfl) rfl
theorem q2010 : (Jvm.Cond.soleField "LeaningMarketModel" "thrown") ∈ lw_all := lw_g (lw_at lw_m8 236 rfl) rfl
theorem q2011 : (Jvm.Cond.lays "LeaningMarketModel" "LeaningMarketModel" "tape" "I") ∈ lw_all := lw_g (lw_at lw_m8 237 rfl) rfl
theorem q2012 : (Jvm.Cond.soleField "LeaningMarketModel" "tape") ∈ lw_all := lw_g (lw_at lw_m8 238 rfl) rfl
theorem q2013 : (Jvm.Cond.lays "LeaningMarketModel" "LeaningMarketModel" "size" "I") ∈ lw_all := lw_g (lw_at lw_m8 239 rfl) rfl
theorem q2014 : (Jvm.Cond.soleField "LeaningMarketModel" "size") ∈ lw_all := lw_g (lw_at lw_m9 0 rfl) rfl
theorem q2015 : (Jvm.Cond.lays "LeaningMarketModel" "LeaningMarketModel" "place" "I") ∈ lw_all := lw_g (lw_at lw_m9 1 rfl) rfl
theorem q2016 : (Jvm.Cond.soleField "LeaningMarketModel" "place") ∈ lw_all := lw_g (lw_at lw_m9 2 rfl) rfl
theorem q2017 : (Jvm.Cond.lays "LeaningMarketModel" "LeaningMarketModel" "at" "I") ∈ lw_all := lw_g (lw_at lw_m9 3 rfl) rfl
theorem q2018 : (Jvm.Cond.soleField "LeaningMarketModel" "at") ∈ lw_all := lw_g (lw_at lw_m9 4 rfl) rfl
theorem q2019 : (Jvm.Cond.lays "LeaningMarketModel" "LeaningMarketModel" "fault" "I") ∈ lw_all := lw_g (lw_at lw_m9 5 rfl) rfl
theorem q2020 : (Jvm.Cond.soleField "LeaningMarketModel" "fault") ∈ lw_all := lw_g (lw_at lw_m9 6 rfl) rfl
theorem q2021 : (Jvm.Cond.lays "LeaningMarketModel" "LeaningMarketModel" "faultAt" "I") ∈ lw_all := lw_g (lw_at lw_m9 7 rfl) rfl
theorem q2022 : (Jvm.Cond.soleField "LeaningMarketModel" "faultAt") ∈ lw_all := lw_g (lw_at lw_m9 8 rfl) rfl
theorem q2023 : (Jvm.Cond.lays "LeaningMarketModel" "LeaningMarketModel" "clauses" "I") ∈ lw_all := lw_g (lw_at lw_m9 9 rfl) rfl
theorem q2024 : (Jvm.Cond.soleField "LeaningMarketModel" "clauses") ∈ lw_all := lw_g (lw_at lw_m9 10 rfl) rfl
theorem q2025 : (Jvm.Cond.lays "LeaningMarketModel" "LeaningMarketModel" "open" "I") ∈ lw_all := lw_g (lw_at lw_m9 11 rfl) rfl
theorem q2026 : (Jvm.Cond.soleField "LeaningMarketModel" "open") ∈ lw_all := lw_g (lw_at lw_m9 12 rfl) rfl
theorem q2027 : (Jvm.Cond.laysFinal "LeaningMarketModel" "LeaningMarketModel" "fed" "[I") ∈ lw_all := lw_g (lw_at lw_m9 13 rfl) rfl
theorem q2028 : (Jvm.Cond.soleField "LeaningMarketModel" "fed") ∈ lw_all := lw_g (lw_at lw_m9 14 rfl) rfl
theorem q2029 : (Jvm.Cond.laysFinal "LeaningMarketModel" "LeaningMarketModel" "refused" "[I") ∈ lw_all := lw_g (lw_at lw_m9 15 rfl) rfl
theorem q2030 : (Jvm.Cond.soleField "LeaningMarketModel" "refused") ∈ lw_all := lw_g (lw_at lw_m9 16 rfl) rfl
theorem q2031 : (Jvm.Cond.laysFinal "LeaningMarketModel" "LeaningMarketModel" "readTold" "[I") ∈ lw_all := lw_g (lw_at lw_m9 17 rfl) rfl
theorem q2032 : (Jvm.Cond.soleField "LeaningMarketModel" "readTold") ∈ lw_all := lw_g (lw_at lw_m9 18 rfl) rfl
theorem q2033 : (Jvm.Cond.laysFinal "LeaningMarketModel" "LeaningMarketModel" "told" "[I") ∈ lw_all := lw_g (lw_at lw_m9 19 rfl) rfl
theorem q2034 : (Jvm.Cond.soleField "LeaningMarketModel" "told") ∈ lw_all := lw_g (lw_at lw_m9 20 rfl) rfl
theorem q2035 : (Jvm.Cond.laysFinal "LeaningMarketModel" "LeaningMarketModel" "readWeight" "[I") ∈ lw_all := lw_g (lw_at lw_m9 21 rfl) rfl
theorem q2036 : (Jvm.Cond.soleField "LeaningMarketModel" "readWeight") ∈ lw_all := lw_g (lw_at lw_m9 22 rfl) rfl
theorem q2037 : (Jvm.Cond.laysFinal "LeaningMarketModel" "LeaningMarketModel" "weight" "[I") ∈ lw_all := lw_g (lw_at lw_m9 23 rfl) rfl
theorem q2038 : (Jvm.Cond.soleField "LeaningMarketModel" "weight") ∈ lw_all := lw_g (lw_at lw_m9 24 rfl) rfl
theorem q2039 : (Jvm.Cond.laysFinal "LeaningMarketModel" "LeaningMarketModel" "readCry" "[[I") ∈ lw_all := lw_g (lw_at lw_m9 25 rfl) rfl
theorem q2040 : (Jvm.Cond.soleField "LeaningMarketModel" "readCry") ∈ lw_all := lw_g (lw_at lw_m9 26 rfl) rfl
theorem q2041 : (Jvm.Cond.laysFinal "LeaningMarketModel" "LeaningMarketModel" "cry" "[[I") ∈ lw_all := lw_g (lw_at lw_m9 27 rfl) rfl
theorem q2042 : (Jvm.Cond.soleField "LeaningMarketModel" "cry") ∈ lw_all := lw_g (lw_at lw_m9 28 rfl) rfl
theorem q2043 : (Jvm.Cond.lays "LeaningMarketModel" "LeaningMarketModel" "lawMany" "I") ∈ lw_all := lw_g (lw_at lw_m9 29 rfl) rfl
theorem q2044 : (Jvm.Cond.soleField "LeaningMarketModel" "lawMany") ∈ lw_all := lw_g (lw_at lw_m9 30 rfl) rfl
theorem q2045 : (Jvm.Cond.lays "LeaningMarketModel" "LeaningMarketModel" "readLawMany" "I") ∈ lw_all := lw_g (lw_at lw_m9 31 rfl) rfl
theorem q2046 : (Jvm.Cond.soleField "LeaningMarketModel" "readLawMany") ∈ lw_all := lw_g (lw_at lw_m9 32 rfl) rfl
theorem q2047 : (Jvm.Cond.laysFinal "LeaningMarketModel" "LeaningMarketModel" "law" "[[I") ∈ lw_all := lw_g (lw_at lw_m9 33 rfl) rfl
theorem q2048 : (Jvm.Cond.soleField "LeaningMarketModel" "law") ∈ lw_all := lw_g (lw_at lw_m9 34 rfl) rfl
theorem q2049 : (Jvm.Cond.laysFinal "LeaningMarketModel" "LeaningMarketModel" "readLaw" "[[I") ∈ lw_all := lw_g (lw_at lw_m9 35 rfl) rfl
theorem q2050 : (Jvm.Cond.soleField "LeaningMarketModel" "readLaw") ∈ lw_all := lw_g (lw_at lw_m9 36 rfl) rfl
theorem q2051 : (Jvm.Cond.laysFinal "LeaningMarketModel" "LeaningMarketModel" "line" "[[I") ∈ lw_all := lw_g (lw_at lw_m9 37 rfl) rfl
theorem q2052 : (Jvm.Cond.soleField "LeaningMarketModel" "line") ∈ lw_all := lw_g (lw_at lw_m9 38 rfl) rfl
theorem q2053 : (Jvm.Cond.laysFinal "LeaningMarketModel" "LeaningMarketModel" "readLine" "[[I") ∈ lw_all := lw_g (lw_at lw_m9 39 rfl) rfl
theorem q2054 : (Jvm.Cond.soleField "LeaningMarketModel" "readLine") ∈ lw_all := lw_g (lw_at lw_m9 40 rfl) rfl
theorem q2055 : (Jvm.Cond.laysFinal "LeaningMarketModel" "LeaningMarketModel" "stack" "[I") ∈ lw_all := lw_g (lw_at lw_m9 41 rfl) rfl
theorem q2056 : (Jvm.Cond.soleField "LeaningMarketModel" "stack") ∈ lw_all := lw_g (lw_at lw_m9 42 rfl) rfl
theorem q2057 : (Jvm.Cond.laysFinal "LeaningMarketModel" "LeaningMarketModel" "known" "[I") ∈ lw_all := lw_g (lw_at lw_m9 43 rfl) rfl
theorem q2058 : (Jvm.Cond.soleField "LeaningMarketModel" "known") ∈ lw_all := lw_g (lw_at lw_m9 44 rfl) rfl
theorem q2059 : (Jvm.Cond.laysFinal "LeaningMarketModel" "LeaningMarketModel" "step" "[[I") ∈ lw_all := lw_g (lw_at lw_m9 45 rfl) rfl
theorem q2060 : (Jvm.Cond.soleField "LeaningMarketModel" "step") ∈ lw_all := lw_g (lw_at lw_m9 46 rfl) rfl
theorem q2061 : (Jvm.Cond.lays "LeaningMarketModel" "LeaningMarketModel" "steps" "I") ∈ lw_all := lw_g (lw_at lw_m9 47 rfl) rfl
theorem q2062 : (Jvm.Cond.soleField "LeaningMarketModel" "steps") ∈ lw_all := lw_g (lw_at lw_m9 48 rfl) rfl
theorem q2063 : (Jvm.Cond.laysFinal "LeaningMarketModel" "LeaningMarketModel" "now" "[I") ∈ lw_all := lw_g (lw_at lw_m9 49 rfl) rfl
theorem q2064 : (Jvm.Cond.soleField "LeaningMarketModel" "now") ∈ lw_all := lw_g (lw_at lw_m9 50 rfl) rfl
theorem q2065 : (Jvm.Cond.laysFinal "LeaningMarketModel" "LeaningMarketModel" "trial" "[I") ∈ lw_all := lw_g (lw_at lw_m9 51 rfl) rfl
theorem q2066 : (Jvm.Cond.soleField "LeaningMarketModel" "trial") ∈ lw_all := lw_g (lw_at lw_m9 52 rfl) rfl
theorem q2067 : (Jvm.Cond.laysFinal "LeaningMarketModel" "LeaningMarketModel" "wears" "[I") ∈ lw_all := lw_g (lw_at lw_m9 53 rfl) rfl
theorem q2068 : (Jvm.Cond.soleField "LeaningMarketModel" "wears") ∈ lw_all := lw_g (lw_at lw_m9 54 rfl) rfl
theorem q2069 : (Jvm.Cond.laysFinal "LeaningMarketModel" "LeaningMarketModel" "before" "[[I") ∈ lw_all := lw_g (lw_at lw_m9 55 rfl) rfl
theorem q2070 : (Jvm.Cond.soleField "LeaningMarketModel" "before") ∈ lw_all := lw_g (lw_at lw_m9 56 rfl) rfl
theorem q2071 : (Jvm.Cond.laysFinal "LeaningMarketModel" "LeaningMarketModel" "kept" "[[I") ∈ lw_all := lw_g (lw_at lw_m9 57 rfl) rfl
theorem q2072 : (Jvm.Cond.soleField "LeaningMarketModel" "kept") ∈ lw_all := lw_g (lw_at lw_m9 58 rfl) rfl
theorem q2073 : (Jvm.Cond.lays "LeaningMarketModel" "LeaningMarketModel" "lines" "I") ∈ lw_all := lw_g (lw_at lw_m9 59 rfl) rfl
theorem q2074 : (Jvm.Cond.soleField "LeaningMarketModel" "lines") ∈ lw_all := lw_g (lw_at lw_m9 60 rfl) rfl
theorem q2075 : (Jvm.Cond.lays "LeaningMarketModel" "LeaningMarketModel" "works" "I") ∈ lw_all := lw_g (lw_at lw_m9 61 rfl) rfl
theorem q2076 : (Jvm.Cond.soleField "LeaningMarketModel" "works") ∈ lw_all := lw_g (lw_at lw_m9 62 rfl) rfl
theorem q2077 : (Jvm.Cond.lays "LeaningMarketModel" "LeaningMarketModel" "refusedSteps" "I") ∈ lw_all := lw_g (lw_at lw_m9 63 rfl) rfl
theorem q2078 : (Jvm.Cond.soleField "LeaningMarketModel" "refusedSteps") ∈ lw_all := lw_g (lw_at lw_m9 64 rfl) rfl
theorem q2079 : (Jvm.Cond.lays "LeaningMarketModel" "LeaningMarketModel" "images" "I") ∈ lw_all := lw_g (lw_at lw_m9 65 rfl) rfl
theorem q2080 : (Jvm.Cond.soleField "LeaningMarketModel" "images") ∈ lw_all := lw_g (lw_at lw_m9 66 rfl) rfl
theorem q2081 : (Jvm.Cond.lays "LeaningMarketModel" "LeaningMarketModel" "spot" "I") ∈ lw_all := lw_g (lw_at lw_m9 67 rfl) rfl
theorem q2082 : (Jvm.Cond.soleField "LeaningMarketModel" "spot") ∈ lw_all := lw_g (lw_at lw_m9 68 rfl) rfl
theorem q2083 : (Jvm.Cond.lays "LeaningMarketModel" "LeaningMarketModel" "begun" "I") ∈ lw_all := lw_g (lw_at lw_m9 69 rfl) rfl
theorem q2084 : (Jvm.Cond.soleField "LeaningMarketModel" "begun") ∈ lw_all := lw_g (lw_at lw_m9 70 rfl) rfl
theorem q2085 : (Jvm.Cond.lays "LeaningMarketModel" "LeaningMarketModel" "doneSteps" "I") ∈ lw_all := lw_g (lw_at lw_m9 71 rfl) rfl
theorem q2086 : (Jvm.Cond.soleField "LeaningMarketModel" "doneSteps") ∈ lw_all := lw_g (lw_at lw_m9 72 rfl) rfl
theorem q2087 : (Jvm.Cond.lays "LeaningMarketModel" "LeaningMarketModel" "bestUp" "J") ∈ lw_all := lw_g (lw_at lw_m9 73 rfl) rfl
theorem q2088 : (Jvm.Cond.soleField "LeaningMarketModel" "bestUp") ∈ lw_all := lw_g (lw_at lw_m9 74 rfl) rfl
theorem q2089 : (Jvm.Cond.lays "LeaningMarketModel" "LeaningMarketModel" "bestLow" "J") ∈ lw_all := lw_g (lw_at lw_m9 75 rfl) rfl
theorem q2090 : (Jvm.Cond.soleField "LeaningMarketModel" "bestLow") ∈ lw_all := lw_g (lw_at lw_m9 76 rfl) rfl
theorem q2091 : (Jvm.Cond.laysFinal "LeaningMarketModel" "LeaningMarketModel" "isFat" "[Z") ∈ lw_all := lw_g (lw_at lw_m9 77 rfl) rfl
theorem q2092 : (Jvm.Cond.soleField "LeaningMarketModel" "isFat") ∈ lw_all := lw_g (lw_at lw_m9 78 rfl) rfl
theorem q2093 : (Jvm.Cond.lays "LeaningMarketModel" "LeaningMarketModel" "fewestFat" "I") ∈ lw_all := lw_g (lw_at lw_m9 79 rfl) rfl
theorem q2094 : (Jvm.Cond.soleField "LeaningMarketModel" "fewestFat") ∈ lw_all := lw_g (lw_at lw_m9 80 rfl) rfl
theorem q2095 : (Jvm.Cond.laysFinal "LeaningMarketModel" "LeaningMarketModel" "by" "[I") ∈ lw_all := lw_g (lw_at lw_m9 81 rfl) rfl
theorem q2096 : (Jvm.Cond.soleField "LeaningMarketModel" "by") ∈ lw_all := lw_g (lw_at lw_m9 82 rfl) rfl
theorem q2097 : (Jvm.Cond.laysFinal "LeaningMarketModel" "LeaningMarketModel" "seen" "[I") ∈ lw_all := lw_g (lw_at lw_m9 83 rfl) rfl
theorem q2098 : (Jvm.Cond.soleField "LeaningMarketModel" "seen") ∈ lw_all := lw_g (lw_at lw_m9 84 rfl) rfl
theorem q2099 : (Jvm.Cond.lays "LeaningMarketModel" "LeaningMarketModel" "lots" "I") ∈ lw_all := lw_g (lw_at lw_m9 85 rfl) rfl
theorem q2100 : (Jvm.Cond.soleField "LeaningMarketModel" "lots") ∈ lw_all := lw_g (lw_at lw_m9 86 rfl) rfl
theorem q2101 : (Jvm.Cond.superclass "LeaningMarketModel" "java/lang/Object") ∈ lw_all := lw_g (lw_at lw_m9 87 rfl) rfl
theorem q2103 : (Jvm.Cond.instanceMethod ({ cls := "LeaningMarketModel", name := "thrown", desc := "()I" } : Jvm.MethodName)) ∈ lw_all := lw_g (lw_at lw_m9 89 rfl) rfl
theorem q2104 : (Jvm.Cond.selects "LeaningMarketModel" ({ cls := "LeaningMarketModel", name := "thrown", desc := "()I" } : Jvm.MethodName) ({ cls := "LeaningMarketModel", name := "thrown", desc := "()I" } : Jvm.MethodName)) ∈ lw_all := lw_g (lw_at lw_m9 90 rfl) rfl
theorem q2105 : (Jvm.Cond.code ({ cls := "LeaningMarketModel", name := "thrown", desc := "()I" } : Jvm.MethodName) prog_32_method_3_code (1 : Nat) (Option.some Jvm.ClassFile.FieldType.int)) ∈ lw_all := lw_g (lw_at lw_m9 91 rfl) rfl
theorem q2107 : (Jvm.Cond.instanceMethod ({ cls := "LeaningMarketModel", name := "feed", desc := "(IIIII)I" } : Jvm.MethodName)) ∈ lw_all := lw_g (lw_at lw_m9 93 rfl) rfl
theorem q2108 : (Jvm.Cond.selects "LeaningMarketModel" ({ cls := "LeaningMarketModel", name := "feed", desc := "(IIIII)I" } : Jvm.MethodName) ({ cls := "LeaningMarketModel", name := "feed", desc := "(IIIII)I" } : Jvm.MethodName)) ∈ lw_all := lw_g (lw_at lw_m9 94 rfl) rfl
theorem q2109 : (Jvm.Cond.code ({ cls := "LeaningMarketModel", name := "feed", desc := "(IIIII)I" } : Jvm.MethodName) prog_32_method_9_code (8 : Nat) (Option.some Jvm.ClassFile.FieldType.int)) ∈ lw_all := lw_g (lw_at lw_m9 95 rfl) rfl
theorem q2111 : (Jvm.Cond.instanceMethod ({ cls := "LeaningMarketModel", name := "market", desc := "(I)I" } : Jvm.MethodName)) ∈ lw_all := lw_g (lw_at lw_m9 97 rfl) rfl
theorem q2112 : (Jvm.Cond.selects "LeaningMarketModel" ({ cls := "LeaningMarketModel", name := "market", desc := "(I)I" } : Jvm.MethodName) ({ cls := "LeaningMarketModel", name := "market", desc := "(I)I" } : Jvm.MethodName)) ∈ lw_all := lw_g (lw_at lw_m9 98 rfl) rfl
theorem q2113 : (Jvm.Cond.code ({ cls := "LeaningMarketModel", name := "market", desc := "(I)I" } : Jvm.MethodName) prog_32_method_30_code (2 : Nat) (Option.some Jvm.ClassFile.FieldType.int)) ∈ lw_all := lw_g (lw_at lw_m9 99 rfl) rfl
theorem q2114 : (Jvm.Cond.methodLink "LeaningMarketModel" (126 : Nat) ({ cls := "LeaningMarketModel", name := "in", desc := "(III)Z" } : Jvm.MethodName)) ∈ lw_all := lw_g (lw_at lw_m9 100 rfl) rfl
theorem q2115 : (Jvm.Cond.static ({ cls := "LeaningMarketModel", name := "in", desc := "(III)Z" } : Jvm.MethodName)) ∈ lw_all := lw_g (lw_at lw_m9 101 rfl) rfl
theorem q2116 : (Jvm.Cond.code ({ cls := "LeaningMarketModel", name := "in", desc := "(III)Z" } : Jvm.MethodName) prog_32_method_5_code (3 : Nat) (Option.some Jvm.ClassFile.FieldType.boolean)) ∈ lw_all := lw_g (lw_at lw_m9 102 rfl) rfl
theorem q2117 : (Jvm.Cond.methodLink "LeaningMarketModel" (171 : Nat) ({ cls := "LeaningMarketModel", name := "bad", desc := "(ZII)Z" } : Jvm.MethodName)) ∈ lw_all := lw_g (lw_at lw_m9 103 rfl) rfl
theorem q2118 : (Jvm.Cond.privateMethod ({ cls := "LeaningMarketModel", name := "bad", desc := "(ZII)Z" } : Jvm.MethodName)) ∈ lw_tbl := lw_at lw_m9 104 rfl
theorem q2119 : (Jvm.Cond.instanceMethod ({ cls := "LeaningMarketModel", name := "bad", desc := "(ZII)Z" } : Jvm.MethodName)) ∈ lw_all := lw_g (lw_at lw_m9 105 rfl) rfl
theorem q2120 : (Jvm.Cond.code ({ cls := "LeaningMarketModel", name := "bad", desc := "(ZII)Z" } : Jvm.MethodName) prog_32_method_4_code (4 : Nat) (Option.some Jvm.ClassFile.FieldType.boolean)) ∈ lw_all := lw_g (lw_at lw_m9 106 rfl) rfl
theorem q2121 : (Jvm.Cond.methodLink "LeaningMarketModel" (175 : Nat) ({ cls := "LeaningMarketModel", name := "starts", desc := "(I)V" } : Jvm.MethodName)) ∈ lw_all := lw_g (lw_at lw_m9 107 rfl) rfl
theorem q2122 : (Jvm.Cond.privateMethod ({ cls := "LeaningMarketModel", name := "starts", desc := "(I)V" } : Jvm.MethodName)) ∈ lw_tbl := lw_at lw_m9 108 rfl
theorem q2123 : (Jvm.Cond.instanceMethod ({ cls := "LeaningMarketModel", name := "starts", desc := "(I)V" } : Jvm.MethodName)) ∈ lw_all := lw_g (lw_at lw_m9 109 rfl) rfl
theorem q2124 : (Jvm.Cond.code ({ cls := "LeaningMarketModel", name := "starts", desc := "(I)V" } : Jvm.MethodName) prog_32_method_23_code (2 : Nat) (Option.none : Option Jvm.ClassFile.FieldType)) ∈ lw_all := lw_g (lw_at lw_m9 110 rfl) rfl
theorem q2125 : (Jvm.Cond.methodLink "LeaningMarketModel" (114 : Nat) ({ cls := "LeaningMarketModel", name := "blanks", desc := "()V" } : Jvm.MethodName)) ∈ lw_all := lw_g (lw_at lw_m9 111 rfl) rfl
theorem q2126 : (Jvm.Cond.privateMethod ({ cls := "LeaningMarketModel", name := "blanks", desc := "()V" } : Jvm.MethodName)) ∈ lw_tbl := lw_at lw_m9 112 rfl
theorem q2127 : (Jvm.Cond.instanceMethod ({ cls := "LeaningMarketModel", name := "blanks", desc := "()V" } : Jvm.MethodName)) ∈ lw_all := lw_g (lw_at lw_m9 113 rfl) rfl
theorem q2128 : (Jvm.Cond.code ({ cls := "LeaningMarketModel", name := "blanks", desc := "()V" } : Jvm.MethodName) prog_32_method_11_code (1 : Nat) (Option.none : Option Jvm.ClassFile.FieldType)) ∈ lw_all := lw_g (lw_at lw_m9 114 rfl) rfl
theorem q2129 : (Jvm.Cond.methodLink "LeaningMarketModel" (104 : Nat) ({ cls := "LeaningMarketModel", name := "byteAt", desc := "(I)I" } : Jvm.MethodName)) ∈ lw_all := lw_g (lw_at lw_m9 115 rfl) rfl
theorem q2130 : (Jvm.Cond.privateMethod ({ cls := "LeaningMarketModel", name := "byteAt", desc := "(I)I" } : Jvm.MethodName)) ∈ lw_tbl := lw_at lw_m9 116 rfl
theorem q2131 : (Jvm.Cond.instanceMethod ({ cls := "LeaningMarketModel", name := "byteAt", desc := "(I)I" } : Jvm.MethodName)) ∈ lw_all := lw_g (lw_at lw_m9 117 rfl) rfl
theorem q2132 : (Jvm.Cond.code ({ cls := "LeaningMarketModel", name := "byteAt", desc := "(I)I" } : Jvm.MethodName) prog_32_method_10_code (2 : Nat) (Option.some Jvm.ClassFile.FieldType.int)) ∈ lw_all := lw_g (lw_at lw_m9 118 rfl) rfl
theorem q2133 : (Jvm.Cond.methodLink "LeaningMarketModel" (178 : Nat) ({ cls := "LeaningMarketModel", name := "clause", desc := "()V" } : Jvm.MethodName)) ∈ lw_all := lw_g (lw_at lw_m9 119 rfl) rfl
theorem q2134 : (Jvm.Cond.privateMethod ({ cls := "LeaningMarketModel", name := "clause", desc := "()V" } : Jvm.MethodName)) ∈ lw_tbl := lw_at lw_m9 120 rfl
theorem q2135 : (Jvm.Cond.instanceMethod ({ cls := "LeaningMarketModel", name := "clause", desc := "()V" } : Jvm.MethodName)) ∈ lw_all := lw_g (lw_at lw_m9 121 rfl) rfl
theorem q2136 : (Jvm.Cond.code ({ cls := "LeaningMarketModel", name := "clause", desc := "()V" } : Jvm.MethodName) prog_32_method_29_code (5 : Nat) (Option.none : Option Jvm.ClassFile.FieldType)) ∈ lw_all := lw_g (lw_at lw_m9 122 rfl) rfl
theorem q2137 : (Jvm.Cond.methodLink "LeaningMarketModel" (158 : Nat) ({ cls := "LeaningMarketModel", name := "kindHere", desc := "()I" } : Jvm.MethodName)) ∈ lw_all := lw_g (lw_at lw_m9 123 rfl) rfl
theorem q2138 : (Jvm.Cond.privateMethod ({ cls := "LeaningMarketModel", name := "kindHere", desc := "()I" } : Jvm.MethodName)) ∈ lw_tbl := lw_at lw_m9 124 rfl
theorem q2139 : (Jvm.Cond.instanceMethod ({ cls := "LeaningMarketModel", name := "kindHere", desc := "()I" } : Jvm.MethodName)) ∈ lw_all := lw_g (lw_at lw_m9 125 rfl) rfl
theorem q2140 : (Jvm.Cond.code ({ cls := "LeaningMarketModel", name := "kindHere", desc := "()I" } : Jvm.MethodName) prog_32_method_26_code (1 : Nat) (Option.some Jvm.ClassFile.FieldType.int)) ∈ lw_all := lw_g (lw_at lw_m9 126 rfl) rfl
theorem q2141 : (Jvm.Cond.methodLink "LeaningMarketModel" (141 : Nat) ({ cls := "LeaningMarketModel", name := "isWord", desc := "(IIIIII)Z" } : Jvm.MethodName)) ∈ lw_all := lw_g (lw_at lw_m9 127 rfl) rfl
theorem q2142 : (Jvm.Cond.privateMethod ({ cls := "LeaningMarketModel", name := "isWord", desc := "(IIIIII)Z" } : Jvm.MethodName)) ∈ lw_tbl := lw_at lw_m9 128 rfl
theorem q2143 : (Jvm.Cond.instanceMethod ({ cls := "LeaningMarketModel", name := "isWord", desc := "(IIIIII)Z" } : Jvm.MethodName)) ∈ lw_all := lw_g (lw_at lw_m9 129 rfl) rfl
theorem q2144 : (Jvm.Cond.code ({ cls := "LeaningMarketModel", name := "isWord", desc := "(IIIIII)Z" } : Jvm.MethodName) prog_32_method_18_code (7 : Nat) (Option.some Jvm.ClassFile.FieldType.boolean)) ∈ lw_all := lw_g (lw_at lw_m9 130 rfl) rfl
theorem q2145 : (Jvm.Cond.methodLink "LeaningMarketModel" (133 : Nat) ({ cls := "LeaningMarketModel", name := "wordHere", desc := "()I" } : Jvm.MethodName)) ∈ lw_all := lw_g (lw_at lw_m9 131 rfl) rfl
theorem q2146 : (Jvm.Cond.privateMethod ({ cls := "LeaningMarketModel", name := "wordHere", desc := "()I" } : Jvm.MethodName)) ∈ lw_tbl := lw_at lw_m9 132 rfl
theorem q2147 : (Jvm.Cond.instanceMethod ({ cls := "LeaningMarketModel", name := "wordHere", desc := "()I" } : Jvm.MethodName)) ∈ lw_all := lw_g (lw_at lw_m9 133 rfl) rfl
theorem q2148 : (Jvm.Cond.code ({ cls := "LeaningMarketModel", name := "wordHere", desc := "()I" } : Jvm.MethodName) prog_32_method_16_code (3 : Nat) (Option.some Jvm.ClassFile.FieldType.int)) ∈ lw_all := lw_g (lw_at lw_m9 134 rfl) rfl
theorem q2149 : (Jvm.Cond.methodLink "LeaningMarketModel" (130 : Nat) ({ cls := "LeaningMarketModel", name := "isSmall", desc := "(I)Z" } : Jvm.MethodName)) ∈ lw_all := lw_g (lw_at lw_m9 135 rfl) rfl
theorem q2150 : (Jvm.Cond.static ({ cls := "LeaningMarketModel", name := "isSmall", desc := "(I)Z" } : Jvm.MethodName)) ∈ lw_all := lw_g (lw_at lw_m9 136 rfl) rfl
theorem q2151 : (Jvm.Cond.code ({ cls := "LeaningMarketModel", name := "isSmall", desc := "(I)Z" } : Jvm.MethodName) prog_32_method_14_code (1 : Nat) (Option.some Jvm.ClassFile.FieldType.boolean)) ∈ lw_all := lw_g (lw_at lw_m9 137 rfl) rfl
theorem q2152 : (Jvm.Cond.methodLink "LeaningMarketModel" (137 : Nat) ({ cls := "LeaningMarketModel", name := "six", desc := "(IIIIII)I" } : Jvm.MethodName)) ∈ lw_all := lw_g (lw_at lw_m9 138 rfl) rfl
theorem q2153 : (Jvm.Cond.static ({ cls := "LeaningMarketModel", name := "six", desc := "(IIIIII)I" } : Jvm.MethodName)) ∈ lw_all := lw_g (lw_at lw_m9 139 rfl) rfl
theorem q2154 : (Jvm.Cond.code ({ cls := "LeaningMarketModel", name := "six", desc := "(IIIIII)I" } : Jvm.MethodName) prog_32_method_17_code (7 : Nat) (Option.some Jvm.ClassFile.FieldType.int)) ∈ lw_all := lw_g (lw_at lw_m9 140 rfl) rfl
theorem q2155 : (Jvm.Cond.methodLink "LeaningMarketModel" (121 : Nat) ({ cls := "LeaningMarketModel", name := "wrong", desc := "(II)V" } : Jvm.MethodName)) ∈ lw_all := lw_g (lw_at lw_m9 141 rfl) rfl
theorem q2156 : (Jvm.Cond.privateMethod ({ cls := "LeaningMarketModel", name := "wrong", desc := "(II)V" } : Jvm.MethodName)) ∈ lw_tbl := lw_at lw_m9 142 rfl
theorem q2157 : (Jvm.Cond.instanceMethod ({ cls := "LeaningMarketModel", name := "wrong", desc := "(II)V" } : Jvm.MethodName)) ∈ lw_all := lw_g (lw_at lw_m9 143 rfl) rfl
theorem q2158 : (Jvm.Cond.code ({ cls := "LeaningMarketModel", name := "wrong", desc := "(II)V" } : Jvm.MethodName) prog_32_method_12_code (3 : Nat) (Option.none : Option Jvm.ClassFile.FieldType)) ∈ lw_all := lw_g (lw_at lw_m9 144 rfl) rfl
theorem q2159 : (Jvm.Cond.methodLink "LeaningMarketModel" (161 : Nat) ({ cls := "LeaningMarketModel", name := "mostOf", desc := "(I)I" } : Jvm.MethodName)) ∈ lw_all := lw_g (lw_at lw_m9 145 rfl) rfl
theorem q2160 : (Jvm.Cond.static ({ cls := "LeaningMarketModel", name := "mostOf", desc := "(I)I" } : Jvm.MethodName)) ∈ lw_all := lw_g (lw_at lw_m9 146 rfl) rfl
theorem q2161 : (Jvm.Cond.code ({ cls := "LeaningMarketModel", name := "mostOf", desc := "(I)I" } : Jvm.MethodName) prog_32_method_27_code (1 : Nat) (Option.some Jvm.ClassFile.FieldType.int)) ∈ lw_all := lw_g (lw_at lw_m9 147 rfl) rfl
theorem q2162 : (Jvm.Cond.methodLink "LeaningMarketModel" (145 : Nat) ({ cls := "LeaningMarketModel", name := "skipWord", desc := "()V" } : Jvm.MethodName)) ∈ lw_all := lw_g (lw_at lw_m9 148 rfl) rfl
theorem q2163 : (Jvm.Cond.privateMethod ({ cls := "LeaningMarketModel", name := "skipWord", desc := "()V" } : Jvm.MethodName)) ∈ lw_tbl := lw_at lw_m9 149 rfl
theorem q2164 : (Jvm.Cond.instanceMethod ({ cls := "LeaningMarketModel", name := "skipWord", desc := "()V" } : Jvm.MethodName)) ∈ lw_all := lw_g (lw_at lw_m9 150 rfl) rfl
theorem q2165 : (Jvm.Cond.code ({ cls := "LeaningMarketModel", name := "skipWord", desc := "()V" } : Jvm.MethodName) prog_32_method_19_code (1 : Nat) (Option.none : Option Jvm.ClassFile.FieldType)) ∈ lw_all := lw_g (lw_at lw_m9 151 rfl) rfl
theorem q2166 : (Jvm.Cond.methodLink "LeaningMarketModel" (154 : Nat) ({ cls := "LeaningMarketModel", name := "number", desc := "(II)I" } : Jvm.MethodName)) ∈ lw_all := lw_g (lw_at lw_m9 152 rfl) rfl
theorem q2167 : (Jvm.Cond.privateMethod ({ cls := "LeaningMarketModel", name := "number", desc := "(II)I" } : Jvm.MethodName)) ∈ lw_tbl := lw_at lw_m9 153 rfl
theorem q2168 : (Jvm.Cond.instanceMethod ({ cls := "LeaningMarketModel", name := "number", desc := "(II)I" } : Jvm.MethodName)) ∈ lw_all := lw_g (lw_at lw_m9 154 rfl) rfl
theorem q2169 : (Jvm.Cond.code ({ cls := "LeaningMarketModel", name := "number", desc := "(II)I" } : Jvm.MethodName) prog_32_method_15_code (5 : Nat) (Option.some Jvm.ClassFile.FieldType.int)) ∈ lw_all := lw_g (lw_at lw_m9 155 rfl) rfl
theorem q2170 : (Jvm.Cond.methodLink "LeaningMarketModel" (117 : Nat) ({ cls := "LeaningMarketModel", name := "isDigit", desc := "(I)Z" } : Jvm.MethodName)) ∈ lw_all := lw_g (lw_at lw_m9 156 rfl) rfl
theorem q2171 : (Jvm.Cond.static ({ cls := "LeaningMarketModel", name := "isDigit", desc := "(I)Z" } : Jvm.MethodName)) ∈ lw_all := lw_g (lw_at lw_m9 157 rfl) rfl
theorem q2172 : (Jvm.Cond.code ({ cls := "LeaningMarketModel", name := "isDigit", desc := "(I)Z" } : Jvm.MethodName) prog_32_method_13_code (1 : Nat) (Option.some Jvm.ClassFile.FieldType.boolean)) ∈ lw_all := lw_g (lw_at lw_m9 158 rfl) rfl
theorem q2173 : (Jvm.Cond.constant "LeaningMarketModel" (125 : Nat) (100000 : Int32)) ∈ lw_all := lw_g (lw_at lw_m9 159 rfl) rfl
theorem q2174 : (Jvm.Cond.methodLink "LeaningMarketModel" (164 : Nat) ({ cls := "LeaningMarketModel", name := "otherThing", desc := "(II)I" } : Jvm.MethodName)) ∈ lw_all := lw_g (lw_at lw_m9 160 rfl) rfl
theorem q2175 : (Jvm.Cond.privateMethod ({ cls := "LeaningMarketModel", name := "otherThing", desc := "(II)I" } : Jvm.MethodName)) ∈ lw_tbl := lw_at lw_m9 161 rfl
theorem q2176 : (Jvm.Cond.instanceMethod ({ cls := "LeaningMarketModel", name := "otherThing", desc := "(II)I" } : Jvm.MethodName)) ∈ lw_all := lw_g (lw_at lw_m9 162 rfl) rfl
theorem q2177 : (Jvm.Cond.code ({ cls := "LeaningMarketModel", name := "otherThing", desc := "(II)I" } : Jvm.MethodName) prog_32_method_28_code (5 : Nat) (Option.some Jvm.ClassFile.FieldType.int)) ∈ lw_all := lw_g (lw_at lw_m9 163 rfl) rfl
theorem q2178 : (Jvm.Cond.methodLink "LeaningMarketModel" (167 : Nat) ({ cls := "LeaningMarketModel", name := "sign", desc := "(I)V" } : Jvm.MethodName)) ∈ lw_all := lw_g (lw_at lw_m9 164 rfl) rfl
theorem q2179 : (Jvm.Cond.privateMethod ({ cls := "LeaningMarketModel", name := "sign", desc := "(I)V" } : Jvm.MethodName)) ∈ lw_tbl := lw_at lw_m9 165 rfl
theorem q2180 : (Jvm.Cond.instanceMethod ({ cls := "LeaningMarketModel", name := "sign", desc := "(I)V" } : Jvm.MethodName)) ∈ lw_all := lw_g (lw_at lw_m9 166 rfl) rfl
theorem q2181 : (Jvm.Cond.code ({ cls := "LeaningMarketModel", name := "sign", desc := "(I)V" } : Jvm.MethodName) prog_32_method_21_code (2 : Nat) (Option.none : Option Jvm.ClassFile.FieldType)) ∈ lw_all := lw_g (lw_at lw_m9 167 rfl) rfl
theorem q2182 : (Jvm.Cond.methodLink "LeaningMarketModel" (181 : Nat) ({ cls := "LeaningMarketModel", name := "ends", desc := "()I" } : Jvm.MethodName)) ∈ lw_all := lw_g (lw_at lw_m9 168 rfl) rfl
theorem q2183 : (Jvm.Cond.privateMethod ({ cls := "LeaningMarketModel", name := "ends", desc := "()I" } : Jvm.MethodName)) ∈ lw_tbl := lw_at lw_m9 169 rfl
theorem q2184 : (Jvm.Cond.instanceMethod ({ cls := "LeaningMarketModel", name := "ends", desc := "()I" } : Jvm.MethodName)) ∈ lw_all := lw_g (lw_at lw_m9 170 rfl) rfl
theorem q2185 : (Jvm.Cond.code ({ cls := "LeaningMarketModel", name := "ends", desc := "()I" } : Jvm.MethodName) prog_32_method_24_code (1 : Nat) (Option.some Jvm.ClassFile.FieldType.int)) ∈ lw_all := lw_g (lw_at lw_m9 171 rfl) rfl
theorem q2187 : (Jvm.Cond.instanceMethod ({ cls := "LeaningMarketModel", name := "law", desc := "(I)I" } : Jvm.MethodName)) ∈ lw_all := lw_g (lw_at lw_m9 173 rfl) rfl
theorem q2188 : (Jvm.Cond.selects "LeaningMarketModel" ({ cls := "LeaningMarketModel", name := "law", desc := "(I)I" } : Jvm.MethodName) ({ cls := "LeaningMarketModel", name := "law", desc := "(I)I" } : Jvm.MethodName)) ∈ lw_all := lw_g (lw_at lw_m9 174 rfl) rfl
theorem q2189 : (Jvm.Cond.code ({ cls := "LeaningMarketModel", name := "law", desc := "(I)I" } : Jvm.MethodName) prog_32_method_40_code (2 : Nat) (Option.some Jvm.ClassFile.FieldType.int)) ∈ lw_all := lw_g (lw_at lw_m9 175 rfl) rfl
theorem q2190 : (Jvm.Cond.methodLink "LeaningMarketModel" (229 : Nat) ({ cls := "LeaningMarketModel", name := "sum", desc := "()V" } : Jvm.MethodName)) ∈ lw_all := lw_g (lw_at lw_m9 176 rfl) rfl
theorem q2191 : (Jvm.Cond.privateMethod ({ cls := "LeaningMarketModel", name := "sum", desc := "()V" } : Jvm.MethodName)) ∈ lw_tbl := lw_at lw_m9 177 rfl
theorem q2192 : (Jvm.Cond.instanceMethod ({ cls := "LeaningMarketModel", name := "sum", desc := "()V" } : Jvm.MethodName)) ∈ lw_all := lw_g (lw_at lw_m9 178 rfl) rfl
theorem q2193 : (Jvm.Cond.code ({ cls := "LeaningMarketModel", name := "sum", desc := "()V" } : Jvm.MethodName) prog_32_method_36_code (2 : Nat) (Option.none : Option Jvm.ClassFile.FieldType)) ∈ lw_all := lw_g (lw_at lw_m9 179 rfl) rfl
theorem q2194 : (Jvm.Cond.methodLink "LeaningMarketModel" (206 : Nat) ({ cls := "LeaningMarketModel", name := "product", desc := "()V" } : Jvm.MethodName)) ∈ lw_all := lw_g (lw_at lw_m9 180 rfl) rfl
theorem q2195 : (Jvm.Cond.privateMethod ({ cls := "LeaningMarketModel", name := "product", desc := "()V" } : Jvm.MethodName)) ∈ lw_tbl := lw_at lw_m9 181 rfl
theorem q2196 : (Jvm.Cond.instanceMethod ({ cls := "LeaningMarketModel", name := "product", desc := "()V" } : Jvm.MethodName)) ∈ lw_all := lw_g (lw_at lw_m9 182 rfl) rfl
theorem q2197 : (Jvm.Cond.code ({ cls := "LeaningMarketModel", name := "product", desc := "()V" } : Jvm.MethodName) prog_32_method_37_code (2 : Nat) (Option.none : Option Jvm.ClassFile.FieldType)) ∈ lw_all := lw_g (lw_at lw_m9 183 rfl) rfl
theorem q2198 : (Jvm.Cond.methodLink "LeaningMarketModel" (215 : Nat) ({ cls := "LeaningMarketModel", name := "one", desc := "()V" } : Jvm.MethodName)) ∈ lw_all := lw_g (lw_at lw_m9 184 rfl) rfl
theorem q2199 : (Jvm.Cond.privateMethod ({ cls := "LeaningMarketModel", name := "one", desc := "()V" } : Jvm.MethodName)) ∈ lw_tbl := lw_at lw_m9 185 rfl
theorem q2200 : (Jvm.Cond.instanceMethod ({ cls := "LeaningMarketModel", name := "one", desc := "()V" } : Jvm.MethodName)) ∈ lw_all := lw_g (lw_at lw_m9 186 rfl) rfl
theorem q2201 : (Jvm.Cond.code ({ cls := "LeaningMarketModel", name := "one", desc := "()V" } : Jvm.MethodName) prog_32_method_39_code (3 : Nat) (Option.none : Option Jvm.ClassFile.FieldType)) ∈ lw_all := lw_g (lw_at lw_m9 187 rfl) rfl
theorem q2202 : (Jvm.Cond.methodLink "LeaningMarketModel" (225 : Nat) ({ cls := "LeaningMarketModel", name := "opensOne", desc := "()Z" } : Jvm.MethodName)) ∈ lw_all := lw_g (lw_at lw_m9 188 rfl) rfl
theorem q2203 : (Jvm.Cond.privateMethod ({ cls := "LeaningMarketModel", name := "opensOne", desc := "()Z" } : Jvm.MethodName)) ∈ lw_tbl := lw_at lw_m9 189 rfl
theorem q2204 : (Jvm.Cond.instanceMethod ({ cls := "LeaningMarketModel", name := "opensOne", desc := "()Z" } : Jvm.MethodName)) ∈ lw_all := lw_g (lw_at lw_m9 190 rfl) rfl
theorem q2205 : (Jvm.Cond.code ({ cls := "LeaningMarketModel", name := "opensOne", desc := "()Z" } : Jvm.MethodName) prog_32_method_35_code (1 : Nat) (Option.some Jvm.ClassFile.FieldType.boolean)) ∈ lw_all := lw_g (lw_at lw_m9 191 rfl) rfl
theorem q2206 : (Jvm.Cond.methodLink "LeaningMarketModel" (212 : Nat) ({ cls := "LeaningMarketModel", name := "notes", desc := "(II)V" } : Jvm.MethodName)) ∈ lw_all := lw_g (lw_at lw_m9 192 rfl) rfl
theorem q2207 : (Jvm.Cond.privateMethod ({ cls := "LeaningMarketModel", name := "notes", desc := "(II)V" } : Jvm.MethodName)) ∈ lw_tbl := lw_at lw_m9 193 rfl
theorem q2208 : (Jvm.Cond.instanceMethod ({ cls := "LeaningMarketModel", name := "notes", desc := "(II)V" } : Jvm.MethodName)) ∈ lw_all := lw_g (lw_at lw_m9 194 rfl) rfl
theorem q2209 : (Jvm.Cond.code ({ cls := "LeaningMarketModel", name := "notes", desc := "(II)V" } : Jvm.MethodName) prog_32_method_34_code (3 : Nat) (Option.none : Option Jvm.ClassFile.FieldType)) ∈ lw_all := lw_g (lw_at lw_m9 195 rfl) rfl
theorem q2210 : (Jvm.Cond.methodLink "LeaningMarketModel" (232 : Nat) ({ cls := "LeaningMarketModel", name := "knownHere", desc := "()I" } : Jvm.MethodName)) ∈ lw_all := lw_g (lw_at lw_m9 196 rfl) rfl
theorem q2211 : (Jvm.Cond.privateMethod ({ cls := "LeaningMarketModel", name := "knownHere", desc := "()I" } : Jvm.MethodName)) ∈ lw_tbl := lw_at lw_m9 197 rfl
theorem q2212 : (Jvm.Cond.instanceMethod ({ cls := "LeaningMarketModel", name := "knownHere", desc := "()I" } : Jvm.MethodName)) ∈ lw_all := lw_g (lw_at lw_m9 198 rfl) rfl
theorem q2213 : (Jvm.Cond.code ({ cls := "LeaningMarketModel", name := "knownHere", desc := "()I" } : Jvm.MethodName) prog_32_method_38_code (1 : Nat) (Option.some Jvm.ClassFile.FieldType.int)) ∈ lw_all := lw_g (lw_at lw_m9 199 rfl) rfl
theorem q2214 : (Jvm.Cond.methodLink "LeaningMarketModel" (218 : Nat) ({ cls := "LeaningMarketModel", name := "takes", desc := "(IIIIII)Z" } : Jvm.MethodName)) ∈ lw_all := lw_g (lw_at lw_m9 200 rfl) rfl
theorem q2215 : (Jvm.Cond.privateMethod ({ cls := "LeaningMarketModel", name := "takes", desc := "(IIIIII)Z" } : Jvm.MethodName)) ∈ lw_tbl := lw_at lw_m9 201 rfl
theorem q2216 : (Jvm.Cond.instanceMethod ({ cls := "LeaningMarketModel", name := "takes", desc := "(IIIIII)Z" } : Jvm.MethodName)) ∈ lw_all := lw_g (lw_at lw_m9 202 rfl) rfl
theorem q2217 : (Jvm.Cond.code ({ cls := "LeaningMarketModel", name := "takes", desc := "(IIIIII)Z" } : Jvm.MethodName) prog_32_method_20_code (8 : Nat) (Option.some Jvm.ClassFile.FieldType.boolean)) ∈ lw_all := lw_g (lw_at lw_m9 203 rfl) rfl
theorem q2218 : (Jvm.Cond.methodLink "LeaningMarketModel" (221 : Nat) ({ cls := "LeaningMarketModel", name := "isSeven", desc := "(II)Z" } : Jvm.MethodName)) ∈ lw_all := lw_g (lw_at lw_m9 204 rfl) rfl
theorem q2219 : (Jvm.Cond.privateMethod ({ cls := "LeaningMarketModel", name := "isSeven", desc := "(II)Z" } : Jvm.MethodName)) ∈ lw_tbl := lw_at lw_m9 205 rfl
theorem q2220 : (Jvm.Cond.instanceMethod ({ cls := "LeaningMarketModel", name := "isSeven", desc := "(II)Z" } : Jvm.MethodName)) ∈ lw_all := lw_g (lw_at lw_m9 206 rfl) rfl
theorem q2221 : (Jvm.Cond.code ({ cls := "LeaningMarketModel", name := "isSeven", desc := "(II)Z" } : Jvm.MethodName) prog_32_method_25_code (6 : Nat) (Option.some Jvm.ClassFile.FieldType.boolean)) ∈ lw_all := lw_g (lw_at lw_m9 207 rfl) rfl
theorem q2222 : (Jvm.Cond.methodLink "LeaningMarketModel" (209 : Nat) ({ cls := "LeaningMarketModel", name := "takesSign", desc := "(I)Z" } : Jvm.MethodName)) ∈ lw_all := lw_g (lw_at lw_m9 208 rfl) rfl
theorem q2223 : (Jvm.Cond.privateMethod ({ cls := "LeaningMarketModel", name := "takesSign", desc := "(I)Z" } : Jvm.MethodName)) ∈ lw_tbl := lw_at lw_m9 209 rfl
theorem q2224 : (Jvm.Cond.instanceMethod ({ cls := "LeaningMarketModel", name := "takesSign", desc := "(I)Z" } : Jvm.MethodName)) ∈ lw_all := lw_g (lw_at lw_m9 210 rfl) rfl
theorem q2225 : (Jvm.Cond.code ({ cls := "LeaningMarketModel", name := "takesSign", desc := "(I)Z" } : Jvm.MethodName) prog_32_method_22_code (3 : Nat) (Option.some Jvm.ClassFile.FieldType.boolean)) ∈ lw_all := lw_g (lw_at lw_m9 211 rfl) rfl
theorem q2227 : (Jvm.Cond.instanceMethod ({ cls := "LeaningMarketModel", name := "book", desc := "(I)I" } : Jvm.MethodName)) ∈ lw_all := lw_g (lw_at lw_m9 213 rfl) rfl
theorem q2228 : (Jvm.Cond.selects "LeaningMarketModel" ({ cls := "LeaningMarketModel", name := "book", desc := "(I)I" } : Jvm.MethodName) ({ cls := "LeaningMarketModel", name := "book", desc := "(I)I" } : Jvm.MethodName)) ∈ lw_all := lw_g (lw_at lw_m9 214 rfl) rfl
theorem q2229 : (Jvm.Cond.code ({ cls := "LeaningMarketModel", name := "book", desc := "(I)I" } : Jvm.MethodName) prog_32_method_45_code (7 : Nat) (Option.some Jvm.ClassFile.FieldType.int)) ∈ lw_all := lw_g (lw_at lw_m9 215 rfl) rfl
theorem q2231 : (Jvm.Cond.instanceMethod ({ cls := "LeaningMarketModel", name := "fault", desc := "()I" } : Jvm.MethodName)) ∈ lw_all := lw_g (lw_at lw_m9 217 rfl) rfl
theorem q2232 : (Jvm.Cond.selects "LeaningMarketModel" ({ cls := "LeaningMarketModel", name := "fault", desc := "()I" } : Jvm.MethodName) ({ cls := "LeaningMarketModel", name := "fault", desc := "()I" } : Jvm.MethodName)) ∈ lw_all := lw_g (lw_at lw_m9 218 rfl) rfl
theorem q2233 : (Jvm.Cond.code ({ cls := "LeaningMarketModel", name := "fault", desc := "()I" } : Jvm.MethodName) prog_32_method_46_code (1 : Nat) (Option.some Jvm.ClassFile.FieldType.int)) ∈ lw_all := lw_g (lw_at lw_m9 219 rfl) rfl
theorem q2235 : (Jvm.Cond.instanceMethod ({ cls := "LeaningMarketModel", name := "work", desc := "(I)I" } : Jvm.MethodName)) ∈ lw_all := lw_g (lw_at lw_m9 221 rfl) rfl
theorem q2236 : (Jvm.Cond.selects "LeaningMarketModel" ({ cls := "LeaningMarketModel", name := "work", desc := "(I)I" } : Jvm.MethodName) ({ cls := "LeaningMarketModel", name := "work", desc := "(I)I" } : Jvm.MethodName)) ∈ lw_all := lw_g (lw_at lw_m9 222 rfl) rfl
theorem q2237 : (Jvm.Cond.code ({ cls := "LeaningMarketModel", name := "work", desc := "(I)I" } : Jvm.MethodName) prog_32_method_61_code (2 : Nat) (Option.some Jvm.ClassFile.FieldType.int)) ∈ lw_all := lw_g (lw_at lw_m9 223 rfl) rfl
theorem q2238 : (Jvm.Cond.methodLink "LeaningMarketModel" (250 : Nat) ({ cls := "LeaningMarketModel", name := "readsStep", desc := "()V" } : Jvm.MethodName)) ∈ lw_all := lw_g (lw_at lw_m9 224 rfl) rfl
theorem q2239 : (Jvm.Cond.privateMethod ({ cls := "LeaningMarketModel", name := "readsStep", desc := "()V" } : Jvm.MethodName)) ∈ lw_tbl := lw_at lw_m9 225 rfl
theorem q2240 : (Jvm.Cond.instanceMethod ({ cls := "LeaningMarketModel", name := "readsStep", desc := "()V" } : Jvm.MethodName)) ∈ lw_all := lw_g (lw_at lw_m9 226 rfl) rfl
theorem q2241 : (Jvm.Cond.code ({ cls := "LeaningMarketModel", name := "readsStep", desc := "()V" } : Jvm.MethodName) prog_32_method_44_code (3 : Nat) (Option.none : Option Jvm.ClassFile.FieldType)) ∈ lw_all := lw_g (lw_at lw_m9 227 rfl) rfl
theorem q2242 : (Jvm.Cond.methodLink "LeaningMarketModel" (244 : Nat) ({ cls := "LeaningMarketModel", name := "stepHere", desc := "()I" } : Jvm.MethodName)) ∈ lw_all := lw_g (lw_at lw_m9 228 rfl) rfl
theorem q2243 : (Jvm.Cond.privateMethod ({ cls := "LeaningMarketModel", name := "stepHere", desc := "()I" } : Jvm.MethodName)) ∈ lw_tbl := lw_at lw_m9 229 rfl
theorem q2244 : (Jvm.Cond.instanceMethod ({ cls := "LeaningMarketModel", name := "stepHere", desc := "()I" } : Jvm.MethodName)) ∈ lw_all := lw_g (lw_at lw_m9 230 rfl) rfl
theorem q2245 : (Jvm.Cond.code ({ cls := "LeaningMarketModel", name := "stepHere", desc := "()I" } : Jvm.MethodName) prog_32_method_43_code (1 : Nat) (Option.some Jvm.ClassFile.FieldType.int)) ∈ lw_all := lw_g (lw_at lw_m9 231 rfl) rfl
theorem q2246 : (Jvm.Cond.methodLink "LeaningMarketModel" (314 : Nat) ({ cls := "LeaningMarketModel", name := "copies", desc := "([I[I)V" } : Jvm.MethodName)) ∈ lw_all := lw_g (lw_at lw_m9 232 rfl) rfl
theorem q2247 : (Jvm.Cond.static ({ cls := "LeaningMarketModel", name := "copies", desc := "([I[I)V" } : Jvm.MethodName)) ∈ lw_all := lw_g (lw_at lw_m9 233 rfl) rfl
theorem q2248 : (Jvm.Cond.code ({ cls := "LeaningMarketModel", name := "copies", desc := "([I[I)V" } : Jvm.MethodName) prog_32_method_32_code (3 : Nat) (Option.none : Option Jvm.ClassFile.FieldType)) ∈ lw_all := lw_g (lw_at lw_m9 234 rfl) rfl
theorem q2249 : (Jvm.Cond.methodLink "LeaningMarketModel" (304 : Nat) ({ cls := "LeaningMarketModel", name := "goes", desc := "(II)V" } : Jvm.MethodName)) ∈ lw_all := lw_g (lw_at lw_m9 235 rfl) rfl
theorem q2250 : (Jvm.Cond.privateMethod ({ cls := "LeaningMarketModel", name := "goes", desc := "(II)V" } : Jvm.MethodName)) ∈ lw_tbl := lw_at lw_m9 236 rfl
theorem q2251 : (Jvm.Cond.instanceMethod ({ cls := "LeaningMarketModel", name := "goes", desc := "(II)V" } : Jvm.MethodName)) ∈ lw_all := lw_g (lw_at lw_m9 237 rfl) rfl
theorem q2252 : (Jvm.Cond.code ({ cls := "LeaningMarketModel", name := "goes", desc := "(II)V" } : Jvm.MethodName) prog_32_method_60_code (5 : Nat) (Option.none : Option Jvm.ClassFile.FieldType)) ∈ lw_all := lw_g (lw_at lw_m9 238 rfl) rfl
theorem q2253 : (Jvm.Cond.methodLink "LeaningMarketModel" (307 : Nat) ({ cls := "LeaningMarketModel", name := "does", desc := "([I[I)Z" } : Jvm.MethodName)) ∈ lw_all := lw_g (lw_at lw_m9 239 rfl) rfl
theorem q2254 : (Jvm.Cond.privateMethod ({ cls := "LeaningMarketModel", name := "does", desc := "([I[I)Z" } : Jvm.MethodName)) ∈ lw_tbl := lw_at lw_m10 0 rfl
theorem q2255 : (Jvm.Cond.instanceMethod ({ cls := "LeaningMarketModel", name := "does", desc := "([I[I)Z" } : Jvm.MethodName)) ∈ lw_all := lw_g (lw_at lw_m10 1 rfl) rfl
theorem q2256 : (Jvm.Cond.code ({ cls := "LeaningMarketModel", name := "does", desc := "([I[I)Z" } : Jvm.MethodName) prog_32_method_59_code (3 : Nat) (Option.some Jvm.ClassFile.FieldType.boolean)) ∈ lw_all := lw_g (lw_at lw_m10 2 rfl) rfl
theorem q2257 : (Jvm.Cond.methodLink "LeaningMarketModel" (286 : Nat) ({ cls := "LeaningMarketModel", name := "weighs", desc := "([IIIII)Z" } : Jvm.MethodName)) ∈ lw_all := lw_g (lw_at lw_m10 3 rfl) rfl
theorem q2258 : (Jvm.Cond.privateMethod ({ cls := "LeaningMarketModel", name := "weighs", desc := "([IIIII)Z" } : Jvm.MethodName)) ∈ lw_tbl := lw_at lw_m10 4 rfl
theorem q2259 : (Jvm.Cond.instanceMethod ({ cls := "LeaningMarketModel", name := "weighs", desc := "([IIIII)Z" } : Jvm.MethodName)) ∈ lw_all := lw_g (lw_at lw_m10 5 rfl) rfl
theorem q2260 : (Jvm.Cond.code ({ cls := "LeaningMarketModel", name := "weighs", desc := "([IIIII)Z" } : Jvm.MethodName) prog_32_method_55_code (7 : Nat) (Option.some Jvm.ClassFile.FieldType.boolean)) ∈ lw_all := lw_g (lw_at lw_m10 6 rfl) rfl
theorem q2261 : (Jvm.Cond.methodLink "LeaningMarketModel" (271 : Nat) ({ cls := "LeaningMarketModel", name := "standsIn", desc := "([IIIII)I" } : Jvm.MethodName)) ∈ lw_all := lw_g (lw_at lw_m10 7 rfl) rfl
theorem q2262 : (Jvm.Cond.privateMethod ({ cls := "LeaningMarketModel", name := "standsIn", desc := "([IIIII)I" } : Jvm.MethodName)) ∈ lw_tbl := lw_at lw_m10 8 rfl
theorem q2263 : (Jvm.Cond.instanceMethod ({ cls := "LeaningMarketModel", name := "standsIn", desc := "([IIIII)I" } : Jvm.MethodName)) ∈ lw_all := lw_g (lw_at lw_m10 9 rfl) rfl
theorem q2264 : (Jvm.Cond.code ({ cls := "LeaningMarketModel", name := "standsIn", desc := "([IIIII)I" } : Jvm.MethodName) prog_32_method_52_code (6 : Nat) (Option.some Jvm.ClassFile.FieldType.int)) ∈ lw_all := lw_g (lw_at lw_m10 10 rfl) rfl
theorem q2265 : (Jvm.Cond.methodLink "LeaningMarketModel" (267 : Nat) ({ cls := "LeaningMarketModel", name := "standsBy", desc := "(IIII)I" } : Jvm.MethodName)) ∈ lw_all := lw_g (lw_at lw_m10 11 rfl) rfl
theorem q2266 : (Jvm.Cond.static ({ cls := "LeaningMarketModel", name := "standsBy", desc := "(IIII)I" } : Jvm.MethodName)) ∈ lw_all := lw_g (lw_at lw_m10 12 rfl) rfl
theorem q2267 : (Jvm.Cond.code ({ cls := "LeaningMarketModel", name := "standsBy", desc := "(IIII)I" } : Jvm.MethodName) prog_32_method_51_code (5 : Nat) (Option.some Jvm.ClassFile.FieldType.int)) ∈ lw_all := lw_g (lw_at lw_m10 13 rfl) rfl
theorem q2268 : (Jvm.Cond.methodLink "LeaningMarketModel" (275 : Nat) ({ cls := "LeaningMarketModel", name := "isCry", desc := "([IIIII)Z" } : Jvm.MethodName)) ∈ lw_all := lw_g (lw_at lw_m10 14 rfl) rfl
theorem q2269 : (Jvm.Cond.static ({ cls := "LeaningMarketModel", name := "isCry", desc := "([IIIII)Z" } : Jvm.MethodName)) ∈ lw_all := lw_g (lw_at lw_m10 15 rfl) rfl
theorem q2270 : (Jvm.Cond.code ({ cls := "LeaningMarketModel", name := "isCry", desc := "([IIIII)Z" } : Jvm.MethodName) prog_32_method_53_code (6 : Nat) (Option.some Jvm.ClassFile.FieldType.boolean)) ∈ lw_all := lw_g (lw_at lw_m10 16 rfl) rfl
theorem q2271 : (Jvm.Cond.methodLink "LeaningMarketModel" (279 : Nat) ({ cls := "LeaningMarketModel", name := "cries", desc := "([IIIII)V" } : Jvm.MethodName)) ∈ lw_all := lw_g (lw_at lw_m10 17 rfl) rfl
theorem q2272 : (Jvm.Cond.static ({ cls := "LeaningMarketModel", name := "cries", desc := "([IIIII)V" } : Jvm.MethodName)) ∈ lw_all := lw_g (lw_at lw_m10 18 rfl) rfl
theorem q2273 : (Jvm.Cond.code ({ cls := "LeaningMarketModel", name := "cries", desc := "([IIIII)V" } : Jvm.MethodName) prog_32_method_54_code (6 : Nat) (Option.none : Option Jvm.ClassFile.FieldType)) ∈ lw_all := lw_g (lw_at lw_m10 19 rfl) rfl
theorem q2274 : (Jvm.Cond.methodLink "LeaningMarketModel" (289 : Nat) ({ cls := "LeaningMarketModel", name := "tips", desc := "([II)Z" } : Jvm.MethodName)) ∈ lw_all := lw_g (lw_at lw_m10 20 rfl) rfl
theorem q2275 : (Jvm.Cond.static ({ cls := "LeaningMarketModel", name := "tips", desc := "([II)Z" } : Jvm.MethodName)) ∈ lw_all := lw_g (lw_at lw_m10 21 rfl) rfl
theorem q2276 : (Jvm.Cond.code ({ cls := "LeaningMarketModel", name := "tips", desc := "([II)Z" } : Jvm.MethodName) prog_32_method_56_code (3 : Nat) (Option.some Jvm.ClassFile.FieldType.boolean)) ∈ lw_all := lw_g (lw_at lw_m10 22 rfl) rfl
theorem q2277 : (Jvm.Cond.methodLink "LeaningMarketModel" (293 : Nat) ({ cls := "LeaningMarketModel", name := "feeds", desc := "([III)Z" } : Jvm.MethodName)) ∈ lw_all := lw_g (lw_at lw_m10 23 rfl) rfl
theorem q2278 : (Jvm.Cond.static ({ cls := "LeaningMarketModel", name := "feeds", desc := "([III)Z" } : Jvm.MethodName)) ∈ lw_all := lw_g (lw_at lw_m10 24 rfl) rfl
theorem q2279 : (Jvm.Cond.code ({ cls := "LeaningMarketModel", name := "feeds", desc := "([III)Z" } : Jvm.MethodName) prog_32_method_57_code (3 : Nat) (Option.some Jvm.ClassFile.FieldType.boolean)) ∈ lw_all := lw_g (lw_at lw_m10 25 rfl) rfl
theorem q2280 : (Jvm.Cond.methodLink "LeaningMarketModel" (235 : Nat) ({ cls := "LeaningMarketModel", name := "less", desc := "(II)I" } : Jvm.MethodName)) ∈ lw_all := lw_g (lw_at lw_m10 26 rfl) rfl
theorem q2281 : (Jvm.Cond.static ({ cls := "LeaningMarketModel", name := "less", desc := "(II)I" } : Jvm.MethodName)) ∈ lw_all := lw_g (lw_at lw_m10 27 rfl) rfl
theorem q2282 : (Jvm.Cond.code ({ cls := "LeaningMarketModel", name := "less", desc := "(II)I" } : Jvm.MethodName) prog_32_method_6_code (2 : Nat) (Option.some Jvm.ClassFile.FieldType.int)) ∈ lw_all := lw_g (lw_at lw_m10 28 rfl) rfl
theorem q2283 : (Jvm.Cond.methodLink "LeaningMarketModel" (297 : Nat) ({ cls := "LeaningMarketModel", name := "dayEnds", desc := "([I)V" } : Jvm.MethodName)) ∈ lw_all := lw_g (lw_at lw_m10 29 rfl) rfl
theorem q2284 : (Jvm.Cond.privateMethod ({ cls := "LeaningMarketModel", name := "dayEnds", desc := "([I)V" } : Jvm.MethodName)) ∈ lw_tbl := lw_at lw_m10 30 rfl
theorem q2285 : (Jvm.Cond.instanceMethod ({ cls := "LeaningMarketModel", name := "dayEnds", desc := "([I)V" } : Jvm.MethodName)) ∈ lw_all := lw_g (lw_at lw_m10 31 rfl) rfl
theorem q2286 : (Jvm.Cond.code ({ cls := "LeaningMarketModel", name := "dayEnds", desc := "([I)V" } : Jvm.MethodName) prog_32_method_58_code (3 : Nat) (Option.none : Option Jvm.ClassFile.FieldType)) ∈ lw_all := lw_g (lw_at lw_m10 32 rfl) rfl
theorem q2287 : (Jvm.Cond.methodLink "LeaningMarketModel" (283 : Nat) ({ cls := "LeaningMarketModel", name := "wearOf", desc := "([II)I" } : Jvm.MethodName)) ∈ lw_all := lw_g (lw_at lw_m10 33 rfl) rfl
theorem q2288 : (Jvm.Cond.privateMethod ({ cls := "LeaningMarketModel", name := "wearOf", desc := "([II)I" } : Jvm.MethodName)) ∈ lw_tbl := lw_at lw_m10 34 rfl
theorem q2289 : (Jvm.Cond.instanceMethod ({ cls := "LeaningMarketModel", name := "wearOf", desc := "([II)I" } : Jvm.MethodName)) ∈ lw_all := lw_g (lw_at lw_m10 35 rfl) rfl
theorem q2290 : (Jvm.Cond.code ({ cls := "LeaningMarketModel", name := "wearOf", desc := "([II)I" } : Jvm.MethodName) prog_32_method_50_code (3 : Nat) (Option.some Jvm.ClassFile.FieldType.int)) ∈ lw_all := lw_g (lw_at lw_m10 36 rfl) rfl
theorem q2291 : (Jvm.Cond.methodLink "LeaningMarketModel" (256 : Nat) ({ cls := "LeaningMarketModel", name := "criesOf", desc := "([II)I" } : Jvm.MethodName)) ∈ lw_all := lw_g (lw_at lw_m10 37 rfl) rfl
theorem q2292 : (Jvm.Cond.static ({ cls := "LeaningMarketModel", name := "criesOf", desc := "([II)I" } : Jvm.MethodName)) ∈ lw_all := lw_g (lw_at lw_m10 38 rfl) rfl
theorem q2293 : (Jvm.Cond.code ({ cls := "LeaningMarketModel", name := "criesOf", desc := "([II)I" } : Jvm.MethodName) prog_32_method_49_code (4 : Nat) (Option.some Jvm.ClassFile.FieldType.int)) ∈ lw_all := lw_g (lw_at lw_m10 39 rfl) rfl
theorem q2294 : (Jvm.Cond.methodLink "LeaningMarketModel" (260 : Nat) ({ cls := "LeaningMarketModel", name := "ones", desc := "(I)I" } : Jvm.MethodName)) ∈ lw_all := lw_g (lw_at lw_m10 40 rfl) rfl
theorem q2295 : (Jvm.Cond.static ({ cls := "LeaningMarketModel", name := "ones", desc := "(I)I" } : Jvm.MethodName)) ∈ lw_all := lw_g (lw_at lw_m10 41 rfl) rfl
theorem q2296 : (Jvm.Cond.code ({ cls := "LeaningMarketModel", name := "ones", desc := "(I)I" } : Jvm.MethodName) prog_32_method_48_code (3 : Nat) (Option.some Jvm.ClassFile.FieldType.int)) ∈ lw_all := lw_g (lw_at lw_m10 42 rfl) rfl
theorem q2297 : (Jvm.Cond.methodLink "LeaningMarketModel" (263 : Nat) ({ cls := "LeaningMarketModel", name := "wearBy", desc := "(IIIIIII)I" } : Jvm.MethodName)) ∈ lw_all := lw_g (lw_at lw_m10 43 rfl) rfl
theorem q2298 : (Jvm.Cond.privateMethod ({ cls := "LeaningMarketModel", name := "wearBy", desc := "(IIIIIII)I" } : Jvm.MethodName)) ∈ lw_tbl := lw_at lw_m10 44 rfl
theorem q2299 : (Jvm.Cond.instanceMethod ({ cls := "LeaningMarketModel", name := "wearBy", desc := "(IIIIIII)I" } : Jvm.MethodName)) ∈ lw_all := lw_g (lw_at lw_m10 45 rfl) rfl
theorem q2300 : (Jvm.Cond.code ({ cls := "LeaningMarketModel", name := "wearBy", desc := "(IIIIIII)I" } : Jvm.MethodName) prog_32_method_47_code (8 : Nat) (Option.some Jvm.ClassFile.FieldType.int)) ∈ lw_all := lw_g (lw_at lw_m10 46 rfl) rfl
theorem q2301 : (Jvm.Cond.methodLink "LeaningMarketModel" (253 : Nat) ({ cls := "LeaningMarketModel", name := "byLaw", desc := "()I" } : Jvm.MethodName)) ∈ lw_all := lw_g (lw_at lw_m10 47 rfl) rfl
theorem q2302 : (Jvm.Cond.privateMethod ({ cls := "LeaningMarketModel", name := "byLaw", desc := "()I" } : Jvm.MethodName)) ∈ lw_tbl := lw_at lw_m10 48 rfl
theorem q2303 : (Jvm.Cond.instanceMethod ({ cls := "LeaningMarketModel", name := "byLaw", desc := "()I" } : Jvm.MethodName)) ∈ lw_all := lw_g (lw_at lw_m10 49 rfl) rfl
theorem q2304 : (Jvm.Cond.code ({ cls := "LeaningMarketModel", name := "byLaw", desc := "()I" } : Jvm.MethodName) prog_32_method_42_code (3 : Nat) (Option.some Jvm.ClassFile.FieldType.int)) ∈ lw_all := lw_g (lw_at lw_m10 50 rfl) rfl
theorem q2305 : (Jvm.Cond.methodLink "LeaningMarketModel" (241 : Nat) ({ cls := "LeaningMarketModel", name := "by", desc := "(III)I" } : Jvm.MethodName)) ∈ lw_all := lw_g (lw_at lw_m10 51 rfl) rfl
theorem q2306 : (Jvm.Cond.static ({ cls := "LeaningMarketModel", name := "by", desc := "(III)I" } : Jvm.MethodName)) ∈ lw_all := lw_g (lw_at lw_m10 52 rfl) rfl
theorem q2307 : (Jvm.Cond.code ({ cls := "LeaningMarketModel", name := "by", desc := "(III)I" } : Jvm.MethodName) prog_32_method_41_code (3 : Nat) (Option.some Jvm.ClassFile.FieldType.int)) ∈ lw_all := lw_g (lw_at lw_m10 53 rfl) rfl
theorem q2308 : (Jvm.Cond.methodLink "LeaningMarketModel" (238 : Nat) ({ cls := "LeaningMarketModel", name := "more", desc := "(II)I" } : Jvm.MethodName)) ∈ lw_all := lw_g (lw_at lw_m10 54 rfl) rfl
theorem q2309 : (Jvm.Cond.static ({ cls := "LeaningMarketModel", name := "more", desc := "(II)I" } : Jvm.MethodName)) ∈ lw_all := lw_g (lw_at lw_m10 55 rfl) rfl
theorem q2310 : (Jvm.Cond.code ({ cls := "LeaningMarketModel", name := "more", desc := "(II)I" } : Jvm.MethodName) prog_32_method_7_code (2 : Nat) (Option.some Jvm.ClassFile.FieldType.int)) ∈ lw_all := lw_g (lw_at lw_m10 56 rfl) rfl
theorem q2312 : (Jvm.Cond.instanceMethod ({ cls := "LeaningMarketModel", name := "undo", desc := "()I" } : Jvm.MethodName)) ∈ lw_all := lw_g (lw_at lw_m10 58 rfl) rfl
theorem q2313 : (Jvm.Cond.selects "LeaningMarketModel" ({ cls := "LeaningMarketModel", name := "undo", desc := "()I" } : Jvm.MethodName) ({ cls := "LeaningMarketModel", name := "undo", desc := "()I" } : Jvm.MethodName)) ∈ lw_all := lw_g (lw_at lw_m10 59 rfl) rfl
theorem q2314 : (Jvm.Cond.code ({ cls := "LeaningMarketModel", name := "undo", desc := "()I" } : Jvm.MethodName) prog_32_method_62_code (1 : Nat) (Option.some Jvm.ClassFile.FieldType.int)) ∈ lw_all := lw_g (lw_at lw_m10 60 rfl) rfl
theorem q2316 : (Jvm.Cond.instanceMethod ({ cls := "LeaningMarketModel", name := "told", desc := "(I)I" } : Jvm.MethodName)) ∈ lw_all := lw_g (lw_at lw_m10 62 rfl) rfl
theorem q2317 : (Jvm.Cond.selects "LeaningMarketModel" ({ cls := "LeaningMarketModel", name := "told", desc := "(I)I" } : Jvm.MethodName) ({ cls := "LeaningMarketModel", name := "told", desc := "(I)I" } : Jvm.MethodName)) ∈ lw_all := lw_g (lw_at lw_m10 63 rfl) rfl
theorem q2318 : (Jvm.Cond.code ({ cls := "LeaningMarketModel", name := "told", desc := "(I)I" } : Jvm.MethodName) prog_32_method_66_code (2 : Nat) (Option.some Jvm.ClassFile.FieldType.int)) ∈ lw_all := lw_g (lw_at lw_m10 64 rfl) rfl
theorem q2319 : (Jvm.Cond.methodLink "LeaningMarketModel" (318 : Nat) ({ cls := "LeaningMarketModel", name := "weightIn", desc := "([I)I" } : Jvm.MethodName)) ∈ lw_all := lw_g (lw_at lw_m10 65 rfl) rfl
theorem q2320 : (Jvm.Cond.privateMethod ({ cls := "LeaningMarketModel", name := "weightIn", desc := "([I)I" } : Jvm.MethodName)) ∈ lw_tbl := lw_at lw_m10 66 rfl
theorem q2321 : (Jvm.Cond.instanceMethod ({ cls := "LeaningMarketModel", name := "weightIn", desc := "([I)I" } : Jvm.MethodName)) ∈ lw_all := lw_g (lw_at lw_m10 67 rfl) rfl
theorem q2322 : (Jvm.Cond.code ({ cls := "LeaningMarketModel", name := "weightIn", desc := "([I)I" } : Jvm.MethodName) prog_32_method_63_code (4 : Nat) (Option.some Jvm.ClassFile.FieldType.int)) ∈ lw_all := lw_g (lw_at lw_m10 68 rfl) rfl
theorem q2323 : (Jvm.Cond.methodLink "LeaningMarketModel" (322 : Nat) ({ cls := "LeaningMarketModel", name := "notSo", desc := "([I)I" } : Jvm.MethodName)) ∈ lw_all := lw_g (lw_at lw_m10 69 rfl) rfl
theorem q2324 : (Jvm.Cond.static ({ cls := "LeaningMarketModel", name := "notSo", desc := "([I)I" } : Jvm.MethodName)) ∈ lw_all := lw_g (lw_at lw_m10 70 rfl) rfl
theorem q2325 : (Jvm.Cond.code ({ cls := "LeaningMarketModel", name := "notSo", desc := "([I)I" } : Jvm.MethodName) prog_32_method_64_code (4 : Nat) (Option.some Jvm.ClassFile.FieldType.int)) ∈ lw_all := lw_g (lw_at lw_m10 71 rfl) rfl
theorem q2326 : (Jvm.Cond.methodLink "LeaningMarketModel" (325 : Nat) ({ cls := "LeaningMarketModel", name := "criedIn", desc := "([I)I" } : Jvm.MethodName)) ∈ lw_all := lw_g (lw_at lw_m10 72 rfl) rfl
theorem q2327 : (Jvm.Cond.privateMethod ({ cls := "LeaningMarketModel", name := "criedIn", desc := "([I)I" } : Jvm.MethodName)) ∈ lw_tbl := lw_at lw_m10 73 rfl
theorem q2328 : (Jvm.Cond.instanceMethod ({ cls := "LeaningMarketModel", name := "criedIn", desc := "([I)I" } : Jvm.MethodName)) ∈ lw_all := lw_g (lw_at lw_m10 74 rfl) rfl
theorem q2329 : (Jvm.Cond.code ({ cls := "LeaningMarketModel", name := "criedIn", desc := "([I)I" } : Jvm.MethodName) prog_32_method_65_code (4 : Nat) (Option.some Jvm.ClassFile.FieldType.int)) ∈ lw_all := lw_g (lw_at lw_m10 75 rfl) rfl
theorem q2331 : (Jvm.Cond.instanceMethod ({ cls := "LeaningMarketModel", name := "thing", desc := "(II)I" } : Jvm.MethodName)) ∈ lw_all := lw_g (lw_at lw_m10 77 rfl) rfl
theorem q2332 : (Jvm.Cond.selects "LeaningMarketModel" ({ cls := "LeaningMarketModel", name := "thing", desc := "(II)I" } : Jvm.MethodName) ({ cls := "LeaningMarketModel", name := "thing", desc := "(II)I" } : Jvm.MethodName)) ∈ lw_all := lw_g (lw_at lw_m10 78 rfl) rfl
theorem q2333 : (Jvm.Cond.code ({ cls := "LeaningMarketModel", name := "thing", desc := "(II)I" } : Jvm.MethodName) prog_32_method_68_code (3 : Nat) (Option.some Jvm.ClassFile.FieldType.int)) ∈ lw_all := lw_g (lw_at lw_m10 79 rfl) rfl
theorem q2334 : (Jvm.Cond.methodLink "LeaningMarketModel" (328 : Nat) ({ cls := "LeaningMarketModel", name := "isThing", desc := "(I)Z" } : Jvm.MethodName)) ∈ lw_all := lw_g (lw_at lw_m10 80 rfl) rfl
theorem q2335 : (Jvm.Cond.privateMethod ({ cls := "LeaningMarketModel", name := "isThing", desc := "(I)Z" } : Jvm.MethodName)) ∈ lw_tbl := lw_at lw_m10 81 rfl
theorem q2336 : (Jvm.Cond.instanceMethod ({ cls := "LeaningMarketModel", name := "isThing", desc := "(I)Z" } : Jvm.MethodName)) ∈ lw_all := lw_g (lw_at lw_m10 82 rfl) rfl
theorem q2337 : (Jvm.Cond.code ({ cls := "LeaningMarketModel", name := "isThing", desc := "(I)Z" } : Jvm.MethodName) prog_32_method_67_code (2 : Nat) (Option.some Jvm.ClassFile.FieldType.boolean)) ∈ lw_all := lw_g (lw_at lw_m10 83 rfl) rfl
theorem q2339 : (Jvm.Cond.instanceMethod ({ cls := "LeaningMarketModel", name := "cry", desc := "(II)I" } : Jvm.MethodName)) ∈ lw_all := lw_g (lw_at lw_m10 85 rfl) rfl
theorem q2340 : (Jvm.Cond.selects "LeaningMarketModel" ({ cls := "LeaningMarketModel", name := "cry", desc := "(II)I" } : Jvm.MethodName) ({ cls := "LeaningMarketModel", name := "cry", desc := "(II)I" } : Jvm.MethodName)) ∈ lw_all := lw_g (lw_at lw_m10 86 rfl) rfl
theorem q2341 : (Jvm.Cond.code ({ cls := "LeaningMarketModel", name := "cry", desc := "(II)I" } : Jvm.MethodName) prog_32_method_69_code (3 : Nat) (Option.some Jvm.ClassFile.FieldType.int)) ∈ lw_all := lw_g (lw_at lw_m10 87 rfl) rfl
theorem q2343 : (Jvm.Cond.instanceMethod ({ cls := "LeaningMarketModel", name := "stands", desc := "(IIII)I" } : Jvm.MethodName)) ∈ lw_all := lw_g (lw_at lw_m10 89 rfl) rfl
theorem q2344 : (Jvm.Cond.selects "LeaningMarketModel" ({ cls := "LeaningMarketModel", name := "stands", desc := "(IIII)I" } : Jvm.MethodName) ({ cls := "LeaningMarketModel", name := "stands", desc := "(IIII)I" } : Jvm.MethodName)) ∈ lw_all := lw_g (lw_at lw_m10 90 rfl) rfl
theorem q2345 : (Jvm.Cond.code ({ cls := "LeaningMarketModel", name := "stands", desc := "(IIII)I" } : Jvm.MethodName) prog_32_method_70_code (5 : Nat) (Option.some Jvm.ClassFile.FieldType.int)) ∈ lw_all := lw_g (lw_at lw_m10 91 rfl) rfl
theorem q2347 : (Jvm.Cond.instanceMethod ({ cls := "LeaningMarketModel", name := "would", desc := "(IIIIIII)I" } : Jvm.MethodName)) ∈ lw_all := lw_g (lw_at lw_m10 93 rfl) rfl
theorem q2348 : (Jvm.Cond.selects "LeaningMarketModel" ({ cls := "LeaningMarketModel", name := "would", desc := "(IIIIIII)I" } : Jvm.MethodName) ({ cls := "LeaningMarketModel", name := "would", desc := "(IIIIIII)I" } : Jvm.MethodName)) ∈ lw_all := lw_g (lw_at lw_m10 94 rfl) rfl
theorem q2349 : (Jvm.Cond.code ({ cls := "LeaningMarketModel", name := "would", desc := "(IIIIIII)I" } : Jvm.MethodName) prog_32_method_71_code (8 : Nat) (Option.some Jvm.ClassFile.FieldType.int)) ∈ lw_all := lw_g (lw_at lw_m10 95 rfl) rfl
theorem q2351 : (Jvm.Cond.instanceMethod ({ cls := "LeaningMarketModel", name := "ahead", desc := "(II)I" } : Jvm.MethodName)) ∈ lw_all := lw_g (lw_at lw_m10 97 rfl) rfl
theorem q2352 : (Jvm.Cond.selects "LeaningMarketModel" ({ cls := "LeaningMarketModel", name := "ahead", desc := "(II)I" } : Jvm.MethodName) ({ cls := "LeaningMarketModel", name := "ahead", desc := "(II)I" } : Jvm.MethodName)) ∈ lw_all := lw_g (lw_at lw_m10 98 rfl) rfl
theorem q2353 : (Jvm.Cond.code ({ cls := "LeaningMarketModel", name := "ahead", desc := "(II)I" } : Jvm.MethodName) prog_32_method_73_code (4 : Nat) (Option.some Jvm.ClassFile.FieldType.int)) ∈ lw_all := lw_g (lw_at lw_m10 99 rfl) rfl
theorem q2354 : (Jvm.Cond.methodLink "LeaningMarketModel" (331 : Nat) ({ cls := "LeaningMarketModel", name := "heaviestIn", desc := "([I)I" } : Jvm.MethodName)) ∈ lw_all := lw_g (lw_at lw_m10 100 rfl) rfl
theorem q2355 : (Jvm.Cond.privateMethod ({ cls := "LeaningMarketModel", name := "heaviestIn", desc := "([I)I" } : Jvm.MethodName)) ∈ lw_tbl := lw_at lw_m10 101 rfl
theorem q2356 : (Jvm.Cond.instanceMethod ({ cls := "LeaningMarketModel", name := "heaviestIn", desc := "([I)I" } : Jvm.MethodName)) ∈ lw_all := lw_g (lw_at lw_m10 102 rfl) rfl
theorem q2357 : (Jvm.Cond.code ({ cls := "LeaningMarketModel", name := "heaviestIn", desc := "([I)I" } : Jvm.MethodName) prog_32_method_72_code (4 : Nat) (Option.some Jvm.ClassFile.FieldType.int)) ∈ lw_all := lw_g (lw_at lw_m10 103 rfl) rfl
theorem q2359 : (Jvm.Cond.instanceMethod ({ cls := "LeaningMarketModel", name := "worth", desc := "(III)J" } : Jvm.MethodName)) ∈ lw_all := lw_g (lw_at lw_m10 105 rfl) rfl
theorem q2360 : (Jvm.Cond.selects "LeaningMarketModel" ({ cls := "LeaningMarketModel", name := "worth", desc := "(III)J" } : Jvm.MethodName) ({ cls := "LeaningMarketModel", name := "worth", desc := "(III)J" } : Jvm.MethodName)) ∈ lw_all := lw_g (lw_at lw_m10 106 rfl) rfl
theorem q2361 : (Jvm.Cond.code ({ cls := "LeaningMarketModel", name := "worth", desc := "(III)J" } : Jvm.MethodName) prog_32_method_80_code (4 : Nat) (Option.some Jvm.ClassFile.FieldType.long)) ∈ lw_all := lw_g (lw_at lw_m10 107 rfl) rfl
theorem q2362 : (Jvm.Cond.methodLink "LeaningMarketModel" (359 : Nat) ({ cls := "LeaningMarketModel", name := "worths", desc := "(II)V" } : Jvm.MethodName)) ∈ lw_all := lw_g (lw_at lw_m10 108 rfl) rfl
theorem q2363 : (Jvm.Cond.privateMethod ({ cls := "LeaningMarketModel", name := "worths", desc := "(II)V" } : Jvm.MethodName)) ∈ lw_tbl := lw_at lw_m10 109 rfl
theorem q2364 : (Jvm.Cond.instanceMethod ({ cls := "LeaningMarketModel", name := "worths", desc := "(II)V" } : Jvm.MethodName)) ∈ lw_all := lw_g (lw_at lw_m10 110 rfl) rfl
theorem q2365 : (Jvm.Cond.code ({ cls := "LeaningMarketModel", name := "worths", desc := "(II)V" } : Jvm.MethodName) prog_32_method_76_code (3 : Nat) (Option.none : Option Jvm.ClassFile.FieldType)) ∈ lw_all := lw_g (lw_at lw_m10 111 rfl) rfl
theorem q2366 : (Jvm.Cond.methodLink "LeaningMarketModel" (348 : Nat) ({ cls := "LeaningMarketModel", name := "chains", desc := "(IIIJJ)V" } : Jvm.MethodName)) ∈ lw_all := lw_g (lw_at lw_m10 112 rfl) rfl
theorem q2367 : (Jvm.Cond.privateMethod ({ cls := "LeaningMarketModel", name := "chains", desc := "(IIIJJ)V" } : Jvm.MethodName)) ∈ lw_tbl := lw_at lw_m10 113 rfl
theorem q2368 : (Jvm.Cond.instanceMethod ({ cls := "LeaningMarketModel", name := "chains", desc := "(IIIJJ)V" } : Jvm.MethodName)) ∈ lw_all := lw_g (lw_at lw_m10 114 rfl) rfl
theorem q2369 : (Jvm.Cond.code ({ cls := "LeaningMarketModel", name := "chains", desc := "(IIIJJ)V" } : Jvm.MethodName) prog_32_method_75_code (11 : Nat) (Option.none : Option Jvm.ClassFile.FieldType)) ∈ lw_all := lw_g (lw_at lw_m10 115 rfl) rfl
theorem q2370 : (Jvm.Cond.methodLink "LeaningMarketModel" (341 : Nat) ({ cls := "LeaningMarketModel", name := "keeps", desc := "(JJ)V" } : Jvm.MethodName)) ∈ lw_all := lw_g (lw_at lw_m10 116 rfl) rfl
theorem q2371 : (Jvm.Cond.privateMethod ({ cls := "LeaningMarketModel", name := "keeps", desc := "(JJ)V" } : Jvm.MethodName)) ∈ lw_tbl := lw_at lw_m10 117 rfl
theorem q2372 : (Jvm.Cond.instanceMethod ({ cls := "LeaningMarketModel", name := "keeps", desc := "(JJ)V" } : Jvm.MethodName)) ∈ lw_all := lw_g (lw_at lw_m10 118 rfl) rfl
theorem q2373 : (Jvm.Cond.code ({ cls := "LeaningMarketModel", name := "keeps", desc := "(JJ)V" } : Jvm.MethodName) prog_32_method_74_code (5 : Nat) (Option.none : Option Jvm.ClassFile.FieldType)) ∈ lw_all := lw_g (lw_at lw_m10 119 rfl) rfl
theorem q2374 : (Jvm.Cond.methodLink "LeaningMarketModel" (345 : Nat) ({ cls := "LeaningMarketModel", name := "has", desc := "(II)Z" } : Jvm.MethodName)) ∈ lw_all := lw_g (lw_at lw_m10 120 rfl) rfl
theorem q2375 : (Jvm.Cond.static ({ cls := "LeaningMarketModel", name := "has", desc := "(II)Z" } : Jvm.MethodName)) ∈ lw_all := lw_g (lw_at lw_m10 121 rfl) rfl
theorem q2376 : (Jvm.Cond.code ({ cls := "LeaningMarketModel", name := "has", desc := "(II)Z" } : Jvm.MethodName) prog_32_method_8_code (2 : Nat) (Option.some Jvm.ClassFile.FieldType.boolean)) ∈ lw_all := lw_g (lw_at lw_m10 122 rfl) rfl
theorem q2377 : (Jvm.Cond.methodLink "LeaningMarketModel" (362 : Nat) ({ cls := "LeaningMarketModel", name := "partOf", desc := "(JJI)J" } : Jvm.MethodName)) ∈ lw_all := lw_g (lw_at lw_m10 123 rfl) rfl
theorem q2378 : (Jvm.Cond.static ({ cls := "LeaningMarketModel", name := "partOf", desc := "(JJI)J" } : Jvm.MethodName)) ∈ lw_all := lw_g (lw_at lw_m10 124 rfl) rfl
theorem q2379 : (Jvm.Cond.code ({ cls := "LeaningMarketModel", name := "partOf", desc := "(JJI)J" } : Jvm.MethodName) prog_32_method_79_code (11 : Nat) (Option.some Jvm.ClassFile.FieldType.long)) ∈ lw_all := lw_g (lw_at lw_m10 125 rfl) rfl
theorem q2381 : (Jvm.Cond.instanceMethod ({ cls := "LeaningMarketModel", name := "fattest", desc := "(I)J" } : Jvm.MethodName)) ∈ lw_all := lw_g (lw_at lw_m10 127 rfl) rfl
theorem q2382 : (Jvm.Cond.selects "LeaningMarketModel" ({ cls := "LeaningMarketModel", name := "fattest", desc := "(I)J" } : Jvm.MethodName) ({ cls := "LeaningMarketModel", name := "fattest", desc := "(I)J" } : Jvm.MethodName)) ∈ lw_all := lw_g (lw_at lw_m10 128 rfl) rfl
theorem q2383 : (Jvm.Cond.code ({ cls := "LeaningMarketModel", name := "fattest", desc := "(I)J" } : Jvm.MethodName) prog_32_method_81_code (2 : Nat) (Option.some Jvm.ClassFile.FieldType.long)) ∈ lw_all := lw_g (lw_at lw_m10 129 rfl) rfl
theorem q2384 : (Jvm.Cond.methodLink "LeaningMarketModel" (366 : Nat) ({ cls := "LeaningMarketModel", name := "allRings", desc := "()V" } : Jvm.MethodName)) ∈ lw_all := lw_g (lw_at lw_m10 130 rfl) rfl
theorem q2385 : (Jvm.Cond.privateMethod ({ cls := "LeaningMarketModel", name := "allRings", desc := "()V" } : Jvm.MethodName)) ∈ lw_tbl := lw_at lw_m10 131 rfl
theorem q2386 : (Jvm.Cond.instanceMethod ({ cls := "LeaningMarketModel", name := "allRings", desc := "()V" } : Jvm.MethodName)) ∈ lw_all := lw_g (lw_at lw_m10 132 rfl) rfl
theorem q2387 : (Jvm.Cond.code ({ cls := "LeaningMarketModel", name := "allRings", desc := "()V" } : Jvm.MethodName) prog_32_method_78_code (2 : Nat) (Option.none : Option Jvm.ClassFile.FieldType)) ∈ lw_all := lw_g (lw_at lw_m10 133 rfl) rfl
theorem q2388 : (Jvm.Cond.methodLink "LeaningMarketModel" (352 : Nat) ({ cls := "LeaningMarketModel", name := "rings", desc := "(IIIIJJ)V" } : Jvm.MethodName)) ∈ lw_all := lw_g (lw_at lw_m10 134 rfl) rfl
theorem q2389 : (Jvm.Cond.privateMethod ({ cls := "LeaningMarketModel", name := "rings", desc := "(IIIIJJ)V" } : Jvm.MethodName)) ∈ lw_tbl := lw_at lw_m10 135 rfl
theorem q2390 : (Jvm.Cond.instanceMethod ({ cls := "LeaningMarketModel", name := "rings", desc := "(IIIIJJ)V" } : Jvm.MethodName)) ∈ lw_all := lw_g (lw_at lw_m10 136 rfl) rfl
theorem q2391 : (Jvm.Cond.code ({ cls := "LeaningMarketModel", name := "rings", desc := "(IIIIJJ)V" } : Jvm.MethodName) prog_32_method_77_code (16 : Nat) (Option.none : Option Jvm.ClassFile.FieldType)) ∈ lw_all := lw_g (lw_at lw_m10 137 rfl) rfl
theorem q2393 : (Jvm.Cond.instanceMethod ({ cls := "LeaningMarketModel", name := "fat", desc := "()I" } : Jvm.MethodName)) ∈ lw_all := lw_g (lw_at lw_m10 139 rfl) rfl
theorem q2394 : (Jvm.Cond.selects "LeaningMarketModel" ({ cls := "LeaningMarketModel", name := "fat", desc := "()I" } : Jvm.MethodName) ({ cls := "LeaningMarketModel", name := "fat", desc := "()I" } : Jvm.MethodName)) ∈ lw_all := lw_g (lw_at lw_m10 140 rfl) rfl
theorem q2395 : (Jvm.Cond.code ({ cls := "LeaningMarketModel", name := "fat", desc := "()I" } : Jvm.MethodName) prog_32_method_82_code (1 : Nat) (Option.some Jvm.ClassFile.FieldType.int)) ∈ lw_all := lw_g (lw_at lw_m10 141 rfl) rfl
theorem q2397 : (Jvm.Cond.instanceMethod ({ cls := "LeaningMarketModel", name := "mend", desc := "()I" } : Jvm.MethodName)) ∈ lw_all := lw_g (lw_at lw_m10 143 rfl) rfl
theorem q2398 : (Jvm.Cond.selects "LeaningMarketModel" ({ cls := "LeaningMarketModel", name := "mend", desc := "()I" } : Jvm.MethodName) ({ cls := "LeaningMarketModel", name := "mend", desc := "()I" } : Jvm.MethodName)) ∈ lw_all := lw_g (lw_at lw_m10 144 rfl) rfl
theorem q2399 : (Jvm.Cond.code ({ cls := "LeaningMarketModel", name := "mend", desc := "()I" } : Jvm.MethodName) prog_32_method_84_code (3 : Nat) (Option.some Jvm.ClassFile.FieldType.int)) ∈ lw_all := lw_g (lw_at lw_m10 145 rfl) rfl
theorem q2400 : (Jvm.Cond.methodLink "LeaningMarketModel" (369 : Nat) ({ cls := "LeaningMarketModel", name := "isMended", desc := "(I)Z" } : Jvm.MethodName)) ∈ lw_all := lw_g (lw_at lw_m10 146 rfl) rfl
theorem q2401 : (Jvm.Cond.privateMethod ({ cls := "LeaningMarketModel", name := "isMended", desc := "(I)Z" } : Jvm.MethodName)) ∈ lw_tbl := lw_at lw_m10 147 rfl
theorem q2402 : (Jvm.Cond.instanceMethod ({ cls := "LeaningMarketModel", name := "isMended", desc := "(I)Z" } : Jvm.MethodName)) ∈ lw_all := lw_g (lw_at lw_m10 148 rfl) rfl
theorem q2403 : (Jvm.Cond.code ({ cls := "LeaningMarketModel", name := "isMended", desc := "(I)Z" } : Jvm.MethodName) prog_32_method_83_code (3 : Nat) (Option.some Jvm.ClassFile.FieldType.boolean)) ∈ lw_all := lw_g (lw_at lw_m10 149 rfl) rfl
theorem q2405 : (Jvm.Cond.instanceMethod ({ cls := "LeaningMarketModel", name := "above", desc := "(I)I" } : Jvm.MethodName)) ∈ lw_all := lw_g (lw_at lw_m10 151 rfl) rfl
theorem q2406 : (Jvm.Cond.selects "LeaningMarketModel" ({ cls := "LeaningMarketModel", name := "above", desc := "(I)I" } : Jvm.MethodName) ({ cls := "LeaningMarketModel", name := "above", desc := "(I)I" } : Jvm.MethodName)) ∈ lw_all := lw_g (lw_at lw_m10 152 rfl) rfl
theorem q2407 : (Jvm.Cond.code ({ cls := "LeaningMarketModel", name := "above", desc := "(I)I" } : Jvm.MethodName) prog_32_method_85_code (4 : Nat) (Option.some Jvm.ClassFile.FieldType.int)) ∈ lw_all := lw_g (lw_at lw_m10 153 rfl) rfl
theorem q2409 : (Jvm.Cond.instanceMethod ({ cls := "LeaningMarketModel", name := "match", desc := "(II)I" } : Jvm.MethodName)) ∈ lw_all := lw_g (lw_at lw_m10 155 rfl) rfl
theorem q2410 : (Jvm.Cond.selects "LeaningMarketModel" ({ cls := "LeaningMarketModel", name := "match", desc := "(II)I" } : Jvm.MethodName) ({ cls := "LeaningMarketModel", name := "match", desc := "(II)I" } : Jvm.MethodName)) ∈ lw_all := lw_g (lw_at lw_m10 156 rfl) rfl
theorem q2411 : (Jvm.Cond.code ({ cls := "LeaningMarketModel", name := "match", desc := "(II)I" } : Jvm.MethodName) prog_32_method_90_code (6 : Nat) (Option.some Jvm.ClassFile.FieldType.int)) ∈ lw_all := lw_g (lw_at lw_m10 157 rfl) rfl
theorem q2412 : (Jvm.Cond.methodLink "LeaningMarketModel" (379 : Nat) ({ cls := "LeaningMarketModel", name := "isSet", desc := "(I)Z" } : Jvm.MethodName)) ∈ lw_all := lw_g (lw_at lw_m10 158 rfl) rfl
theorem q2413 : (Jvm.Cond.privateMethod ({ cls := "LeaningMarketModel", name := "isSet", desc := "(I)Z" } : Jvm.MethodName)) ∈ lw_tbl := lw_at lw_m10 159 rfl
theorem q2414 : (Jvm.Cond.instanceMethod ({ cls := "LeaningMarketModel", name := "isSet", desc := "(I)Z" } : Jvm.MethodName)) ∈ lw_all := lw_g (lw_at lw_m10 160 rfl) rfl
theorem q2415 : (Jvm.Cond.code ({ cls := "LeaningMarketModel", name := "isSet", desc := "(I)Z" } : Jvm.MethodName) prog_32_method_89_code (2 : Nat) (Option.some Jvm.ClassFile.FieldType.boolean)) ∈ lw_all := lw_g (lw_at lw_m10 161 rfl) rfl
theorem q2416 : (Jvm.Cond.methodLink "LeaningMarketModel" (376 : Nat) ({ cls := "LeaningMarketModel", name := "everyThing", desc := "()I" } : Jvm.MethodName)) ∈ lw_all := lw_g (lw_at lw_m10 162 rfl) rfl
theorem q2417 : (Jvm.Cond.privateMethod ({ cls := "LeaningMarketModel", name := "everyThing", desc := "()I" } : Jvm.MethodName)) ∈ lw_tbl := lw_at lw_m10 163 rfl
theorem q2418 : (Jvm.Cond.instanceMethod ({ cls := "LeaningMarketModel", name := "everyThing", desc := "()I" } : Jvm.MethodName)) ∈ lw_all := lw_g (lw_at lw_m10 164 rfl) rfl
theorem q2419 : (Jvm.Cond.code ({ cls := "LeaningMarketModel", name := "everyThing", desc := "()I" } : Jvm.MethodName) prog_32_method_88_code (1 : Nat) (Option.some Jvm.ClassFile.FieldType.int)) ∈ lw_all := lw_g (lw_at lw_m10 165 rfl) rfl
theorem q2420 : (Jvm.Cond.methodLink "LeaningMarketModel" (382 : Nat) ({ cls := "LeaningMarketModel", name := "laysAmounts", desc := "(I)V" } : Jvm.MethodName)) ∈ lw_all := lw_g (lw_at lw_m10 166 rfl) rfl
theorem q2421 : (Jvm.Cond.privateMethod ({ cls := "LeaningMarketModel", name := "laysAmounts", desc := "(I)V" } : Jvm.MethodName)) ∈ lw_tbl := lw_at lw_m10 167 rfl
theorem q2422 : (Jvm.Cond.instanceMethod ({ cls := "LeaningMarketModel", name := "laysAmounts", desc := "(I)V" } : Jvm.MethodName)) ∈ lw_all := lw_g (lw_at lw_m10 168 rfl) rfl
theorem q2423 : (Jvm.Cond.code ({ cls := "LeaningMarketModel", name := "laysAmounts", desc := "(I)V" } : Jvm.MethodName) prog_32_method_87_code (3 : Nat) (Option.none : Option Jvm.ClassFile.FieldType)) ∈ lw_all := lw_g (lw_at lw_m10 169 rfl) rfl
theorem q2424 : (Jvm.Cond.methodLink "LeaningMarketModel" (372 : Nat) ({ cls := "LeaningMarketModel", name := "laysFrom", desc := "(IIII)V" } : Jvm.MethodName)) ∈ lw_all := lw_g (lw_at lw_m10 170 rfl) rfl
theorem q2425 : (Jvm.Cond.privateMethod ({ cls := "LeaningMarketModel", name := "laysFrom", desc := "(IIII)V" } : Jvm.MethodName)) ∈ lw_tbl := lw_at lw_m10 171 rfl
theorem q2426 : (Jvm.Cond.instanceMethod ({ cls := "LeaningMarketModel", name := "laysFrom", desc := "(IIII)V" } : Jvm.MethodName)) ∈ lw_all := lw_g (lw_at lw_m10 172 rfl) rfl
theorem q2427 : (Jvm.Cond.code ({ cls := "LeaningMarketModel", name := "laysFrom", desc := "(IIII)V" } : Jvm.MethodName) prog_32_method_86_code (5 : Nat) (Option.none : Option Jvm.ClassFile.FieldType)) ∈ lw_all := lw_g (lw_at lw_m10 173 rfl) rfl
theorem q2429 : (Jvm.Cond.instanceMethod ({ cls := "LeaningMarketModel", name := "fewest", desc := "(I)I" } : Jvm.MethodName)) ∈ lw_all := lw_g (lw_at lw_m10 175 rfl) rfl
theorem q2430 : (Jvm.Cond.selects "LeaningMarketModel" ({ cls := "LeaningMarketModel", name := "fewest", desc := "(I)I" } : Jvm.MethodName) ({ cls := "LeaningMarketModel", name := "fewest", desc := "(I)I" } : Jvm.MethodName)) ∈ lw_all := lw_g (lw_at lw_m10 176 rfl) rfl
theorem q2431 : (Jvm.Cond.code ({ cls := "LeaningMarketModel", name := "fewest", desc := "(I)I" } : Jvm.MethodName) prog_32_method_91_code (2 : Nat) (Option.some Jvm.ClassFile.FieldType.int)) ∈ lw_all := lw_g (lw_at lw_m10 177 rfl) rfl
theorem q2433 : (Jvm.Cond.instanceMethod ({ cls := "LeaningMarketModel", name := "level", desc := "(II)I" } : Jvm.MethodName)) ∈ lw_all := lw_g (lw_at lw_m10 179 rfl) rfl
theorem q2434 : (Jvm.Cond.selects "LeaningMarketModel" ({ cls := "LeaningMarketModel", name := "level", desc := "(II)I" } : Jvm.MethodName) ({ cls := "LeaningMarketModel", name := "level", desc := "(II)I" } : Jvm.MethodName)) ∈ lw_all := lw_g (lw_at lw_m10 180 rfl) rfl
theorem q2435 : (Jvm.Cond.code ({ cls := "LeaningMarketModel", name := "level", desc := "(II)I" } : Jvm.MethodName) prog_32_method_93_code (10 : Nat) (Option.some Jvm.ClassFile.FieldType.int)) ∈ lw_all := lw_g (lw_at lw_m10 181 rfl) rfl
theorem q2436 : (Jvm.Cond.methodLink "LeaningMarketModel" (385 : Nat) ({ cls := "LeaningMarketModel", name := "heavy", desc := "(I)I" } : Jvm.MethodName)) ∈ lw_all := lw_g (lw_at lw_m10 182 rfl) rfl
theorem q2437 : (Jvm.Cond.privateMethod ({ cls := "LeaningMarketModel", name := "heavy", desc := "(I)I" } : Jvm.MethodName)) ∈ lw_tbl := lw_at lw_m10 183 rfl
theorem q2438 : (Jvm.Cond.instanceMethod ({ cls := "LeaningMarketModel", name := "heavy", desc := "(I)I" } : Jvm.MethodName)) ∈ lw_all := lw_g (lw_at lw_m10 184 rfl) rfl
theorem q2439 : (Jvm.Cond.code ({ cls := "LeaningMarketModel", name := "heavy", desc := "(I)I" } : Jvm.MethodName) prog_32_method_92_code (4 : Nat) (Option.some Jvm.ClassFile.FieldType.int)) ∈ lw_all := lw_g (lw_at lw_m10 185 rfl) rfl
theorem q2441 : (Jvm.Cond.instanceMethod ({ cls := "LeaningMarketModel", name := "fits", desc := "(I)I" } : Jvm.MethodName)) ∈ lw_all := lw_g (lw_at lw_m10 187 rfl) rfl
theorem q2442 : (Jvm.Cond.selects "LeaningMarketModel" ({ cls := "LeaningMarketModel", name := "fits", desc := "(I)I" } : Jvm.MethodName) ({ cls := "LeaningMarketModel", name := "fits", desc := "(I)I" } : Jvm.MethodName)) ∈ lw_all := lw_g (lw_at lw_m10 188 rfl) rfl
theorem q2443 : (Jvm.Cond.code ({ cls := "LeaningMarketModel", name := "fits", desc := "(I)I" } : Jvm.MethodName) prog_32_method_95_code (5 : Nat) (Option.some Jvm.ClassFile.FieldType.int)) ∈ lw_all := lw_g (lw_at lw_m10 189 rfl) rfl
theorem q2444 : (Jvm.Cond.methodLink "LeaningMarketModel" (388 : Nat) ({ cls := "LeaningMarketModel", name := "isBeam", desc := "(II)Z" } : Jvm.MethodName)) ∈ lw_all := lw_g (lw_at lw_m10 190 rfl) rfl
theorem q2445 : (Jvm.Cond.privateMethod ({ cls := "LeaningMarketModel", name := "isBeam", desc := "(II)Z" } : Jvm.MethodName)) ∈ lw_tbl := lw_at lw_m10 191 rfl
theorem q2446 : (Jvm.Cond.instanceMethod ({ cls := "LeaningMarketModel", name := "isBeam", desc := "(II)Z" } : Jvm.MethodName)) ∈ lw_all := lw_g (lw_at lw_m10 192 rfl) rfl
theorem q2447 : (Jvm.Cond.code ({ cls := "LeaningMarketModel", name := "isBeam", desc := "(II)Z" } : Jvm.MethodName) prog_32_method_94_code (4 : Nat) (Option.some Jvm.ClassFile.FieldType.boolean)) ∈ lw_all := lw_g (lw_at lw_m10 193 rfl) rfl
theorem q2449 : (Jvm.Cond.instanceMethod ({ cls := "LeaningMarketModel", name := "look", desc := "(I)I" } : Jvm.MethodName)) ∈ lw_all := lw_g (lw_at lw_m10 195 rfl) rfl
theorem q2450 : (Jvm.Cond.selects "LeaningMarketModel" ({ cls := "LeaningMarketModel", name := "look", desc := "(I)I" } : Jvm.MethodName) ({ cls := "LeaningMarketModel", name := "look", desc := "(I)I" } : Jvm.MethodName)) ∈ lw_all := lw_g (lw_at lw_m10 196 rfl) rfl
theorem q2451 : (Jvm.Cond.code ({ cls := "LeaningMarketModel", name := "look", desc := "(I)I" } : Jvm.MethodName) prog_32_method_97_code (7 : Nat) (Option.some Jvm.ClassFile.FieldType.int)) ∈ lw_all := lw_g (lw_at lw_m10 197 rfl) rfl
theorem q2452 : (Jvm.Cond.methodLink "LeaningMarketModel" (391 : Nat) ({ cls := "LeaningMarketModel", name := "worstOf", desc := "(II)I" } : Jvm.MethodName)) ∈ lw_all := lw_g (lw_at lw_m10 198 rfl) rfl
theorem q2453 : (Jvm.Cond.privateMethod ({ cls := "LeaningMarketModel", name := "worstOf", desc := "(II)I" } : Jvm.MethodName)) ∈ lw_tbl := lw_at lw_m10 199 rfl
theorem q2454 : (Jvm.Cond.instanceMethod ({ cls := "LeaningMarketModel", name := "worstOf", desc := "(II)I" } : Jvm.MethodName)) ∈ lw_all := lw_g (lw_at lw_m10 200 rfl) rfl
theorem q2455 : (Jvm.Cond.code ({ cls := "LeaningMarketModel", name := "worstOf", desc := "(II)I" } : Jvm.MethodName) prog_32_method_96_code (4 : Nat) (Option.some Jvm.ClassFile.FieldType.int)) ∈ lw_all := lw_g (lw_at lw_m10 201 rfl) rfl
theorem q2457 : (Jvm.Cond.instanceMethod ({ cls := "LeaningMarketModel", name := "falsely", desc := "(I)I" } : Jvm.MethodName)) ∈ lw_all := lw_g (lw_at lw_m10 203 rfl) rfl
theorem q2458 : (Jvm.Cond.selects "LeaningMarketModel" ({ cls := "LeaningMarketModel", name := "falsely", desc := "(I)I" } : Jvm.MethodName) ({ cls := "LeaningMarketModel", name := "falsely", desc := "(I)I" } : Jvm.MethodName)) ∈ lw_all := lw_g (lw_at lw_m10 204 rfl) rfl
theorem q2459 : (Jvm.Cond.code ({ cls := "LeaningMarketModel", name := "falsely", desc := "(I)I" } : Jvm.MethodName) prog_32_method_98_code (4 : Nat) (Option.some Jvm.ClassFile.FieldType.int)) ∈ lw_all := lw_g (lw_at lw_m10 205 rfl) rfl
theorem q2461 : (Jvm.Cond.instanceMethod ({ cls := "LeaningMarketModel", name := "sellers", desc := "(III)I" } : Jvm.MethodName)) ∈ lw_all := lw_g (lw_at lw_m10 207 rfl) rfl
theorem q2462 : (Jvm.Cond.selects "LeaningMarketModel" ({ cls := "LeaningMarketModel", name := "sellers", desc := "(III)I" } : Jvm.MethodName) ({ cls := "LeaningMarketModel", name := "sellers", desc := "(III)I" } : Jvm.MethodName)) ∈ lw_all := lw_g (lw_at lw_m10 208 rfl) rfl
theorem q2463 : (Jvm.Cond.code ({ cls := "LeaningMarketModel", name := "sellers", desc := "(III)I" } : Jvm.MethodName) prog_32_method_101_code (9 : Nat) (Option.some Jvm.ClassFile.FieldType.int)) ∈ lw_all := lw_g (lw_at lw_m10 209 rfl) rfl
theorem q2464 : (Jvm.Cond.methodLink "LeaningMarketModel" (397 : Nat) ({ cls := "LeaningMarketModel", name := "isBest", desc := "(IIII)Z" } : Jvm.MethodName)) ∈ lw_all := lw_g (lw_at lw_m10 210 rfl) rfl
theorem q2465 : (Jvm.Cond.static ({ cls := "LeaningMarketModel", name := "isBest", desc := "(IIII)Z" } : Jvm.MethodName)) ∈ lw_all := lw_g (lw_at lw_m10 211 rfl) rfl
theorem q2466 : (Jvm.Cond.code ({ cls := "LeaningMarketModel", name := "isBest", desc := "(IIII)Z" } : Jvm.MethodName) prog_32_method_100_code (4 : Nat) (Option.some Jvm.ClassFile.FieldType.boolean)) ∈ lw_all := lw_g (lw_at lw_m10 212 rfl) rfl
theorem q2467 : (Jvm.Cond.methodLink "LeaningMarketModel" (394 : Nat) ({ cls := "LeaningMarketModel", name := "hasBy", desc := "(IIII)I" } : Jvm.MethodName)) ∈ lw_all := lw_g (lw_at lw_m10 213 rfl) rfl
theorem q2468 : (Jvm.Cond.static ({ cls := "LeaningMarketModel", name := "hasBy", desc := "(IIII)I" } : Jvm.MethodName)) ∈ lw_all := lw_g (lw_at lw_m10 214 rfl) rfl
theorem q2469 : (Jvm.Cond.code ({ cls := "LeaningMarketModel", name := "hasBy", desc := "(IIII)I" } : Jvm.MethodName) prog_32_method_99_code (4 : Nat) (Option.some Jvm.ClassFile.FieldType.int)) ∈ lw_all := lw_g (lw_at lw_m10 215 rfl) rfl
theorem q2471 : (Jvm.Cond.instanceMethod ({ cls := "LeaningMarketModel", name := "even", desc := "(III)J" } : Jvm.MethodName)) ∈ lw_all := lw_g (lw_at lw_m10 217 rfl) rfl
theorem q2472 : (Jvm.Cond.selects "LeaningMarketModel" ({ cls := "LeaningMarketModel", name := "even", desc := "(III)J" } : Jvm.MethodName) ({ cls := "LeaningMarketModel", name := "even", desc := "(III)J" } : Jvm.MethodName)) ∈ lw_all := lw_g (lw_at lw_m10 218 rfl) rfl
theorem q2473 : (Jvm.Cond.code ({ cls := "LeaningMarketModel", name := "even", desc := "(III)J" } : Jvm.MethodName) prog_32_method_102_code (8 : Nat) (Option.some Jvm.ClassFile.FieldType.long)) ∈ lw_all := lw_g (lw_at lw_m10 219 rfl) rfl
theorem q2475 : (Jvm.Cond.instanceMethod ({ cls := "LeaningMarketModel", name := "share", desc := "(III)I" } : Jvm.MethodName)) ∈ lw_all := lw_g (lw_at lw_m10 221 rfl) rfl
theorem q2476 : (Jvm.Cond.selects "LeaningMarketModel" ({ cls := "LeaningMarketModel", name := "share", desc := "(III)I" } : Jvm.MethodName) ({ cls := "LeaningMarketModel", name := "share", desc := "(III)I" } : Jvm.MethodName)) ∈ lw_all := lw_g (lw_at lw_m10 222 rfl) rfl
theorem q2477 : (Jvm.Cond.code ({ cls := "LeaningMarketModel", name := "share", desc := "(III)I" } : Jvm.MethodName) prog_32_method_104_code (5 : Nat) (Option.some Jvm.ClassFile.FieldType.int)) ∈ lw_all := lw_g (lw_at lw_m10 223 rfl) rfl
theorem q2478 : (Jvm.Cond.methodLink "LeaningMarketModel" (401 : Nat) ({ cls := "LeaningMarketModel", name := "givenBy", desc := "(II)I" } : Jvm.MethodName)) ∈ lw_all := lw_g (lw_at lw_m10 224 rfl) rfl
theorem q2479 : (Jvm.Cond.privateMethod ({ cls := "LeaningMarketModel", name := "givenBy", desc := "(II)I" } : Jvm.MethodName)) ∈ lw_tbl := lw_at lw_m10 225 rfl
theorem q2480 : (Jvm.Cond.instanceMethod ({ cls := "LeaningMarketModel", name := "givenBy", desc := "(II)I" } : Jvm.MethodName)) ∈ lw_all := lw_g (lw_at lw_m10 226 rfl) rfl
theorem q2481 : (Jvm.Cond.code ({ cls := "LeaningMarketModel", name := "givenBy", desc := "(II)I" } : Jvm.MethodName) prog_32_method_103_code (5 : Nat) (Option.some Jvm.ClassFile.FieldType.int)) ∈ lw_all := lw_g (lw_at lw_m10 227 rfl) rfl
theorem q2483 : (Jvm.Cond.instanceMethod ({ cls := "LeaningMarketModel", name := "heaviest", desc := "(I)I" } : Jvm.MethodName)) ∈ lw_all := lw_g (lw_at lw_m10 229 rfl) rfl
theorem q2484 : (Jvm.Cond.selects "LeaningMarketModel" ({ cls := "LeaningMarketModel", name := "heaviest", desc := "(I)I" } : Jvm.MethodName) ({ cls := "LeaningMarketModel", name := "heaviest", desc := "(I)I" } : Jvm.MethodName)) ∈ lw_all := lw_g (lw_at lw_m10 230 rfl) rfl
theorem q2485 : (Jvm.Cond.code ({ cls := "LeaningMarketModel", name := "heaviest", desc := "(I)I" } : Jvm.MethodName) prog_32_method_105_code (3 : Nat) (Option.some Jvm.ClassFile.FieldType.int)) ∈ lw_all := lw_g (lw_at lw_m10 231 rfl) rfl
theorem q2487 : (Jvm.Cond.instanceMethod ({ cls := "LeaningMarketModel", name := "alike", desc := "(I)I" } : Jvm.MethodName)) ∈ lw_all := lw_g (lw_at lw_m10 233 rfl) rfl
theorem q2488 : (Jvm.Cond.selects "LeaningMarketModel" ({ cls := "LeaningMarketModel", name := "alike", desc := "(I)I" } : Jvm.MethodName) ({ cls := "LeaningMarketModel", name := "alike", desc := "(I)I" } : Jvm.MethodName)) ∈ lw_all := lw_g (lw_at lw_m10 234 rfl) rfl
theorem q2489 : (Jvm.Cond.code ({ cls := "LeaningMarketModel", name := "alike", desc := "(I)I" } : Jvm.MethodName) prog_32_method_106_code (6 : Nat) (Option.some Jvm.ClassFile.FieldType.int)) ∈ lw_all := lw_g (lw_at lw_m10 235 rfl) rfl
theorem q2491 : (Jvm.Cond.instanceMethod ({ cls := "LeaningMarketModel", name := "against", desc := "(II)I" } : Jvm.MethodName)) ∈ lw_all := lw_g (lw_at lw_m10 237 rfl) rfl
theorem q2492 : (Jvm.Cond.selects "LeaningMarketModel" ({ cls := "LeaningMarketModel", name := "against", desc := "(II)I" } : Jvm.MethodName) ({ cls := "LeaningMarketModel", name := "against", desc := "(II)I" } : Jvm.MethodName)) ∈ lw_all := lw_g (lw_at lw_m10 238 rfl) rfl
theorem q2493 : (Jvm.Cond.code ({ cls := "LeaningMarketModel", name := "against", desc := "(II)I" } : Jvm.MethodName) prog_32_method_107_code (4 : Nat) (Option.some Jvm.ClassFile.FieldType.int)) ∈ lw_all := lw_g (lw_at lw_m10 239 rfl) rfl
theorem q2495 : (Jvm.Cond.instanceMethod ({ cls := "LeaningMarketModel", name := "fair", desc := "(IIII)I" } : Jvm.MethodName)) ∈ lw_all := lw_g (lw_at lw_m11 1 rfl) rfl
theorem q2496 : (Jvm.Cond.selects "LeaningMarketModel" ({ cls := "LeaningMarketModel", name := "fair", desc := "(IIII)I" } : Jvm.MethodName) ({ cls := "LeaningMarketModel", name := "fair", desc := "(IIII)I" } : Jvm.MethodName)) ∈ lw_all := lw_g (lw_at lw_m11 2 rfl) rfl
theorem q2497 : (Jvm.Cond.code ({ cls := "LeaningMarketModel", name := "fair", desc := "(IIII)I" } : Jvm.MethodName) prog_32_method_111_code (5 : Nat) (Option.some Jvm.ClassFile.FieldType.int)) ∈ lw_all := lw_g (lw_at lw_m11 3 rfl) rfl
theorem q2498 : (Jvm.Cond.methodLink "LeaningMarketModel" (411 : Nat) ({ cls := "LeaningMarketModel", name := "isFair", desc := "(II)Z" } : Jvm.MethodName)) ∈ lw_all := lw_g (lw_at lw_m11 4 rfl) rfl
theorem q2499 : (Jvm.Cond.static ({ cls := "LeaningMarketModel", name := "isFair", desc := "(II)Z" } : Jvm.MethodName)) ∈ lw_all := lw_g (lw_at lw_m11 5 rfl) rfl
theorem q2500 : (Jvm.Cond.code ({ cls := "LeaningMarketModel", name := "isFair", desc := "(II)Z" } : Jvm.MethodName) prog_32_method_110_code (2 : Nat) (Option.some Jvm.ClassFile.FieldType.boolean)) ∈ lw_all := lw_g (lw_at lw_m11 6 rfl) rfl
theorem q2501 : (Jvm.Cond.methodLink "LeaningMarketModel" (414 : Nat) ({ cls := "LeaningMarketModel", name := "fairBy", desc := "(III)V" } : Jvm.MethodName)) ∈ lw_all := lw_g (lw_at lw_m11 7 rfl) rfl
theorem q2502 : (Jvm.Cond.privateMethod ({ cls := "LeaningMarketModel", name := "fairBy", desc := "(III)V" } : Jvm.MethodName)) ∈ lw_tbl := lw_at lw_m11 8 rfl
theorem q2503 : (Jvm.Cond.instanceMethod ({ cls := "LeaningMarketModel", name := "fairBy", desc := "(III)V" } : Jvm.MethodName)) ∈ lw_all := lw_g (lw_at lw_m11 9 rfl) rfl
theorem q2504 : (Jvm.Cond.code ({ cls := "LeaningMarketModel", name := "fairBy", desc := "(III)V" } : Jvm.MethodName) prog_32_method_109_code (7 : Nat) (Option.none : Option Jvm.ClassFile.FieldType)) ∈ lw_all := lw_g (lw_at lw_m11 10 rfl) rfl
theorem q2505 : (Jvm.Cond.methodLink "LeaningMarketModel" (408 : Nat) ({ cls := "LeaningMarketModel", name := "draw", desc := "(I)I" } : Jvm.MethodName)) ∈ lw_all := lw_g (lw_at lw_m11 11 rfl) rfl
theorem q2506 : (Jvm.Cond.privateMethod ({ cls := "LeaningMarketModel", name := "draw", desc := "(I)I" } : Jvm.MethodName)) ∈ lw_tbl := lw_at lw_m11 12 rfl
theorem q2507 : (Jvm.Cond.instanceMethod ({ cls := "LeaningMarketModel", name := "draw", desc := "(I)I" } : Jvm.MethodName)) ∈ lw_all := lw_g (lw_at lw_m11 13 rfl) rfl
theorem q2508 : (Jvm.Cond.code ({ cls := "LeaningMarketModel", name := "draw", desc := "(I)I" } : Jvm.MethodName) prog_32_method_108_code (2 : Nat) (Option.some Jvm.ClassFile.FieldType.int)) ∈ lw_all := lw_g (lw_at lw_m11 14 rfl) rfl
theorem q2509 : (Jvm.Cond.constant "LeaningMarketModel" (407 : Nat) (1103515245 : Int32)) ∈ lw_all := lw_g (lw_at lw_m11 15 rfl) rfl
theorem q2511 : (Jvm.Cond.instanceMethod ({ cls := "LeaningMarketModel", name := "span", desc := "(IIIIII)I" } : Jvm.MethodName)) ∈ lw_all := lw_g (lw_at lw_m11 17 rfl) rfl
theorem q2512 : (Jvm.Cond.selects "LeaningMarketModel" ({ cls := "LeaningMarketModel", name := "span", desc := "(IIIIII)I" } : Jvm.MethodName) ({ cls := "LeaningMarketModel", name := "span", desc := "(IIIIII)I" } : Jvm.MethodName)) ∈ lw_all := lw_g (lw_at lw_m11 18 rfl) rfl
theorem q2513 : (Jvm.Cond.code ({ cls := "LeaningMarketModel", name := "span", desc := "(IIIIII)I" } : Jvm.MethodName) prog_32_method_112_code (12 : Nat) (Option.some Jvm.ClassFile.FieldType.int)) ∈ lw_all := lw_g (lw_at lw_m11 19 rfl) rfl
theorem q2515 : (Jvm.Cond.instanceMethod ({ cls := "LeaningMarketModel", name := "image", desc := "()I" } : Jvm.MethodName)) ∈ lw_all := lw_g (lw_at lw_m11 21 rfl) rfl
theorem q2516 : (Jvm.Cond.selects "LeaningMarketModel" ({ cls := "LeaningMarketModel", name := "image", desc := "()I" } : Jvm.MethodName) ({ cls := "LeaningMarketModel", name := "image", desc := "()I" } : Jvm.MethodName)) ∈ lw_all := lw_g (lw_at lw_m11 22 rfl) rfl
theorem q2517 : (Jvm.Cond.code ({ cls := "LeaningMarketModel", name := "image", desc := "()I" } : Jvm.MethodName) prog_32_method_115_code (1 : Nat) (Option.some Jvm.ClassFile.FieldType.int)) ∈ lw_all := lw_g (lw_at lw_m11 23 rfl) rfl
theorem q2518 : (Jvm.Cond.methodLink "LeaningMarketModel" (425 : Nat) ({ cls := "LeaningMarketModel", name := "putsAll", desc := "([IZ)V" } : Jvm.MethodName)) ∈ lw_all := lw_g (lw_at lw_m11 24 rfl) rfl
theorem q2519 : (Jvm.Cond.privateMethod ({ cls := "LeaningMarketModel", name := "putsAll", desc := "([IZ)V" } : Jvm.MethodName)) ∈ lw_tbl := lw_at lw_m11 25 rfl
theorem q2520 : (Jvm.Cond.instanceMethod ({ cls := "LeaningMarketModel", name := "putsAll", desc := "([IZ)V" } : Jvm.MethodName)) ∈ lw_all := lw_g (lw_at lw_m11 26 rfl) rfl
theorem q2521 : (Jvm.Cond.code ({ cls := "LeaningMarketModel", name := "putsAll", desc := "([IZ)V" } : Jvm.MethodName) prog_32_method_114_code (5 : Nat) (Option.none : Option Jvm.ClassFile.FieldType)) ∈ lw_all := lw_g (lw_at lw_m11 27 rfl) rfl
theorem q2522 : (Jvm.Cond.methodLink "LeaningMarketModel" (421 : Nat) ({ cls := "LeaningMarketModel", name := "puts", desc := "([IIZ)I" } : Jvm.MethodName)) ∈ lw_all := lw_g (lw_at lw_m11 28 rfl) rfl
theorem q2523 : (Jvm.Cond.privateMethod ({ cls := "LeaningMarketModel", name := "puts", desc := "([IIZ)I" } : Jvm.MethodName)) ∈ lw_tbl := lw_at lw_m11 29 rfl
theorem q2524 : (Jvm.Cond.instanceMethod ({ cls := "LeaningMarketModel", name := "puts", desc := "([IIZ)I" } : Jvm.MethodName)) ∈ lw_all := lw_g (lw_at lw_m11 30 rfl) rfl
theorem q2525 : (Jvm.Cond.code ({ cls := "LeaningMarketModel", name := "puts", desc := "([IIZ)I" } : Jvm.MethodName) prog_32_method_113_code (4 : Nat) (Option.some Jvm.ClassFile.FieldType.int)) ∈ lw_all := lw_g (lw_at lw_m11 31 rfl) rfl
theorem q2527 : (Jvm.Cond.instanceMethod ({ cls := "LeaningMarketModel", name := "restore", desc := "()I" } : Jvm.MethodName)) ∈ lw_all := lw_g (lw_at lw_m11 33 rfl) rfl
theorem q2528 : (Jvm.Cond.selects "LeaningMarketModel" ({ cls := "LeaningMarketModel", name := "restore", desc := "()I" } : Jvm.MethodName) ({ cls := "LeaningMarketModel", name := "restore", desc := "()I" } : Jvm.MethodName)) ∈ lw_all := lw_g (lw_at lw_m11 34 rfl) rfl
theorem q2529 : (Jvm.Cond.code ({ cls := "LeaningMarketModel", name := "restore", desc := "()I" } : Jvm.MethodName) prog_32_method_116_code (1 : Nat) (Option.some Jvm.ClassFile.FieldType.int)) ∈ lw_all := lw_g (lw_at lw_m11 35 rfl) rfl
theorem q2531 : (Jvm.Cond.instanceMethod ({ cls := "LeaningMarketModel", name := "status", desc := "(I)I" } : Jvm.MethodName)) ∈ lw_all := lw_g (lw_at lw_m11 37 rfl) rfl
theorem q2532 : (Jvm.Cond.selects "LeaningMarketModel" ({ cls := "LeaningMarketModel", name := "status", desc := "(I)I" } : Jvm.MethodName) ({ cls := "LeaningMarketModel", name := "status", desc := "(I)I" } : Jvm.MethodName)) ∈ lw_all := lw_g (lw_at lw_m11 38 rfl) rfl
theorem q2533 : (Jvm.Cond.code ({ cls := "LeaningMarketModel", name := "status", desc := "(I)I" } : Jvm.MethodName) prog_32_method_117_code (2 : Nat) (Option.some Jvm.ClassFile.FieldType.int)) ∈ lw_all := lw_g (lw_at lw_m11 39 rfl) rfl
theorem q2535 : (Jvm.Cond.instanceMethod ({ cls := "LeaningMarketModel", name := "count", desc := "(I)I" } : Jvm.MethodName)) ∈ lw_all := lw_g (lw_at lw_m11 41 rfl) rfl
theorem q2536 : (Jvm.Cond.selects "LeaningMarketModel" ({ cls := "LeaningMarketModel", name := "count", desc := "(I)I" } : Jvm.MethodName) ({ cls := "LeaningMarketModel", name := "count", desc := "(I)I" } : Jvm.MethodName)) ∈ lw_all := lw_g (lw_at lw_m11 42 rfl) rfl
theorem q2537 : (Jvm.Cond.code ({ cls := "LeaningMarketModel", name := "count", desc := "(I)I" } : Jvm.MethodName) prog_32_method_118_code (2 : Nat) (Option.some Jvm.ClassFile.FieldType.int)) ∈ lw_all := lw_g (lw_at lw_m11 43 rfl) rfl
theorem q2577 : (Jvm.Cond.castable "LeaningMarketModel" "java/lang/Object") ∈ lw_tbl := lw_at lw_m11 83 rfl
theorem in_X9 : ∀ w ∈ wsX90, w ∈ lw_all := lw_in wsX90 [2009, 2011, 2013, 2015, 2017, 2019, 2021, 2023, 2025, 2027, 2029, 2031, 2033, 2035, 2037, 2039, 2041, 2043, 2045, 2047, 2049, 2051, 2053, 2055, 2057, 2059, 2061, 2063, 2065, 2067, 2069, 2071, 2073, 2075, 2077, 2079, 2081, 2083, 2085, 2087, 2089, 2091, 2093, 2095, 2097, 2099] (by decide +kernel) (by decide +kernel)

/-! LeaningMarket$Reader -/
set_option maxRecDepth 100000
def RX10 : String := "LeaningMarket$Reader"
abbrev cX10_init : ByteArray := prog_20_method_1_code
def yX10_init : MethodName := ⟨RX10, "<init>", "([BI)V"⟩
abbrev cX10_sign : ByteArray := prog_20_method_2_code
def yX10_sign : MethodName := ⟨RX10, "sign", "()I"⟩
abbrev cX10_word : ByteArray := prog_20_method_3_code
def yX10_word : MethodName := ⟨RX10, "word", "()Ljava/lang/String;"⟩
abbrev cX10_wrong : ByteArray := prog_20_method_4_code
def yX10_wrong : MethodName := ⟨RX10, "wrong", "()LLeaningMarket$Wrong;"⟩
abbrev cX10_number : ByteArray := prog_20_method_7_code
def yX10_number : MethodName := ⟨RX10, "number", "(II)I"⟩
abbrev cX10_need : ByteArray := prog_20_method_5_code
def yX10_need : MethodName := ⟨RX10, "need", "(I)V"⟩
abbrev cX10_opens : ByteArray := prog_20_method_6_code
def yX10_opens : MethodName := ⟨RX10, "opens", "(I)V"⟩
theorem q124 : (Jvm.Cond.initialized "LeaningMarket$Reader") ∈ lw_all := lw_g (lw_at lw_m1 30 rfl) rfl
theorem q914 : (Jvm.Cond.instanceMethod ({ cls := "LeaningMarket$Reader", name := "<init>", desc := "([BI)V" } : Jvm.MethodName)) ∈ lw_all := lw_g (lw_at lw_m4 100 rfl) rfl
theorem q915 : (Jvm.Cond.code ({ cls := "LeaningMarket$Reader", name := "<init>", desc := "([BI)V" } : Jvm.MethodName) prog_20_method_1_code (3 : Nat) (Option.none : Option Jvm.ClassFile.FieldType)) ∈ lw_all := lw_g (lw_at lw_m4 101 rfl) rfl
theorem q916 : (Jvm.Cond.methodLink "LeaningMarket$Reader" (3 : Nat) ({ cls := "java/lang/Object", name := "<init>", desc := "()V" } : Jvm.MethodName)) ∈ lw_all := lw_g (lw_at lw_m4 102 rfl) rfl
theorem q920 : (Jvm.Cond.fieldLink "LeaningMarket$Reader" (9 : Nat) "LeaningMarket$Reader" "text" "[B") ∈ lw_all := lw_g (lw_at lw_m4 106 rfl) rfl
theorem q921 : (Jvm.Cond.fieldLink "LeaningMarket$Reader" (15 : Nat) "LeaningMarket$Reader" "size" "I") ∈ lw_all := lw_g (lw_at lw_m4 107 rfl) rfl
theorem q930 : (Jvm.Cond.fieldLink "LeaningMarket$Reader" (19 : Nat) "LeaningMarket$Reader" "next" "I") ∈ lw_all := lw_g (lw_at lw_m4 116 rfl) rfl
theorem q943 : (Jvm.Cond.fieldLink "LeaningMarket$Reader" (52 : Nat) "LeaningMarket$Reader" "from" "I") ∈ lw_all := lw_g (lw_at lw_m4 129 rfl) rfl
theorem q948 : (Jvm.Cond.fieldLink "LeaningMarket$Reader" (49 : Nat) "LeaningMarket$Reader" "open" "I") ∈ lw_all := lw_g (lw_at lw_m4 134 rfl) rfl
theorem q952 : (Jvm.Cond.soleField "LeaningMarket$Reader" "text") ∈ lw_all := lw_g (lw_at lw_m4 138 rfl) rfl
theorem q954 : (Jvm.Cond.soleField "LeaningMarket$Reader" "size") ∈ lw_all := lw_g (lw_at lw_m4 140 rfl) rfl
theorem q956 : (Jvm.Cond.soleField "LeaningMarket$Reader" "next") ∈ lw_all := lw_g (lw_at lw_m4 142 rfl) rfl
theorem q958 : (Jvm.Cond.soleField "LeaningMarket$Reader" "from") ∈ lw_all := lw_g (lw_at lw_m4 144 rfl) rfl
theorem q960 : (Jvm.Cond.soleField "LeaningMarket$Reader" "open") ∈ lw_all := lw_g (lw_at lw_m4 146 rfl) rfl
theorem q968 : (Jvm.Cond.declares ({ cls := "LeaningMarket$Reader", name := "sign", desc := "()I" } : Jvm.MethodName)) ∈ lw_tbl := lw_at lw_m4 154 rfl
theorem q970 : (Jvm.Cond.instanceMethod ({ cls := "LeaningMarket$Reader", name := "sign", desc := "()I" } : Jvm.MethodName)) ∈ lw_all := lw_g (lw_at lw_m4 156 rfl) rfl
theorem q971 : (Jvm.Cond.code ({ cls := "LeaningMarket$Reader", name := "sign", desc := "()I" } : Jvm.MethodName) prog_20_method_2_code (1 : Nat) (Option.some Jvm.ClassFile.FieldType.int)) ∈ lw_all := lw_g (lw_at lw_m4 157 rfl) rfl
theorem q974 : (Jvm.Cond.declares ({ cls := "LeaningMarket$Reader", name := "word", desc := "()Ljava/lang/String;" } : Jvm.MethodName)) ∈ lw_tbl := lw_at lw_m4 160 rfl
theorem q976 : (Jvm.Cond.instanceMethod ({ cls := "LeaningMarket$Reader", name := "word", desc := "()Ljava/lang/String;" } : Jvm.MethodName)) ∈ lw_all := lw_g (lw_at lw_m4 162 rfl) rfl
theorem q977 : (Jvm.Cond.code ({ cls := "LeaningMarket$Reader", name := "word", desc := "()Ljava/lang/String;" } : Jvm.MethodName) prog_20_method_3_code (3 : Nat) (Option.some (Jvm.ClassFile.FieldType.object "java/lang/String"))) ∈ lw_all := lw_g (lw_at lw_m4 163 rfl) rfl
theorem q978 : (Jvm.Cond.methodLink "LeaningMarket$Reader" (22 : Nat) ({ cls := "LeaningMarket$Reader", name := "sign", desc := "()I" } : Jvm.MethodName)) ∈ lw_all := lw_g (lw_at lw_m4 164 rfl) rfl
theorem q979 : (Jvm.Cond.classLink "LeaningMarket$Reader" (26 : Nat) "java/lang/StringBuilder") ∈ lw_all := lw_g (lw_at lw_m4 165 rfl) rfl
theorem q980 : (Jvm.Cond.methodLink "LeaningMarket$Reader" (28 : Nat) ({ cls := "java/lang/StringBuilder", name := "<init>", desc := "()V" } : Jvm.MethodName)) ∈ lw_all := lw_g (lw_at lw_m4 166 rfl) rfl
theorem q981 : (Jvm.Cond.methodLink "LeaningMarket$Reader" (29 : Nat) ({ cls := "java/lang/StringBuilder", name := "length", desc := "()I" } : Jvm.MethodName)) ∈ lw_all := lw_g (lw_at lw_m4 167 rfl) rfl
theorem q982 : (Jvm.Cond.methodLink "LeaningMarket$Reader" (32 : Nat) ({ cls := "java/lang/StringBuilder", name := "append", desc := "(C)Ljava/lang/StringBuilder;" } : Jvm.MethodName)) ∈ lw_all := lw_g (lw_at lw_m4 168 rfl) rfl
theorem q1002 : (Jvm.Cond.methodLink "LeaningMarket$Reader" (36 : Nat) ({ cls := "java/lang/StringBuilder", name := "toString", desc := "()Ljava/lang/String;" } : Jvm.MethodName)) ∈ lw_all := lw_g (lw_at lw_m4 188 rfl) rfl
theorem q1081 : (Jvm.Cond.declares ({ cls := "LeaningMarket$Reader", name := "wrong", desc := "()LLeaningMarket$Wrong;" } : Jvm.MethodName)) ∈ lw_tbl := lw_at lw_m5 27 rfl
theorem q1083 : (Jvm.Cond.instanceMethod ({ cls := "LeaningMarket$Reader", name := "wrong", desc := "()LLeaningMarket$Wrong;" } : Jvm.MethodName)) ∈ lw_all := lw_g (lw_at lw_m5 29 rfl) rfl
theorem q1084 : (Jvm.Cond.code ({ cls := "LeaningMarket$Reader", name := "wrong", desc := "()LLeaningMarket$Wrong;" } : Jvm.MethodName) prog_20_method_4_code (1 : Nat) (Option.some (Jvm.ClassFile.FieldType.object "LeaningMarket$Wrong"))) ∈ lw_all := lw_g (lw_at lw_m5 30 rfl) rfl
theorem q1085 : (Jvm.Cond.classLink "LeaningMarket$Reader" (40 : Nat) "LeaningMarket$Wrong") ∈ lw_all := lw_g (lw_at lw_m5 31 rfl) rfl
theorem q1094 : (Jvm.Cond.methodLink "LeaningMarket$Reader" (42 : Nat) ({ cls := "LeaningMarket$Wrong", name := "<init>", desc := "(II)V" } : Jvm.MethodName)) ∈ lw_all := lw_g (lw_at lw_m5 40 rfl) rfl
theorem q1123 : (Jvm.Cond.declares ({ cls := "LeaningMarket$Reader", name := "number", desc := "(II)I" } : Jvm.MethodName)) ∈ lw_tbl := lw_at lw_m5 69 rfl
theorem q1125 : (Jvm.Cond.instanceMethod ({ cls := "LeaningMarket$Reader", name := "number", desc := "(II)I" } : Jvm.MethodName)) ∈ lw_all := lw_g (lw_at lw_m5 71 rfl) rfl
theorem q1126 : (Jvm.Cond.code ({ cls := "LeaningMarket$Reader", name := "number", desc := "(II)I" } : Jvm.MethodName) prog_20_method_7_code (5 : Nat) (Option.some Jvm.ClassFile.FieldType.int)) ∈ lw_all := lw_g (lw_at lw_m5 72 rfl) rfl
theorem q1127 : (Jvm.Cond.methodLink "LeaningMarket$Reader" (45 : Nat) ({ cls := "LeaningMarket$Reader", name := "wrong", desc := "()LLeaningMarket$Wrong;" } : Jvm.MethodName)) ∈ lw_all := lw_g (lw_at lw_m5 73 rfl) rfl
theorem q1128 : (Jvm.Cond.constant "LeaningMarket$Reader" (55 : Nat) (100000 : Int32)) ∈ lw_all := lw_g (lw_at lw_m5 74 rfl) rfl
theorem q1129 : (Jvm.Cond.methodLink "LeaningMarket$Reader" (56 : Nat) ({ cls := "java/lang/Math", name := "min", desc := "(II)I" } : Jvm.MethodName)) ∈ lw_all := lw_g (lw_at lw_m5 75 rfl) rfl
theorem q1184 : (Jvm.Cond.declares ({ cls := "LeaningMarket$Reader", name := "need", desc := "(I)V" } : Jvm.MethodName)) ∈ lw_tbl := lw_at lw_m5 130 rfl
theorem q1186 : (Jvm.Cond.instanceMethod ({ cls := "LeaningMarket$Reader", name := "need", desc := "(I)V" } : Jvm.MethodName)) ∈ lw_all := lw_g (lw_at lw_m5 132 rfl) rfl
theorem q1187 : (Jvm.Cond.code ({ cls := "LeaningMarket$Reader", name := "need", desc := "(I)V" } : Jvm.MethodName) prog_20_method_5_code (2 : Nat) (Option.none : Option Jvm.ClassFile.FieldType)) ∈ lw_all := lw_g (lw_at lw_m5 133 rfl) rfl
theorem q1232 : (Jvm.Cond.declares ({ cls := "LeaningMarket$Reader", name := "opens", desc := "(I)V" } : Jvm.MethodName)) ∈ lw_tbl := lw_at lw_m5 178 rfl
theorem q1234 : (Jvm.Cond.instanceMethod ({ cls := "LeaningMarket$Reader", name := "opens", desc := "(I)V" } : Jvm.MethodName)) ∈ lw_all := lw_g (lw_at lw_m5 180 rfl) rfl
theorem q1235 : (Jvm.Cond.code ({ cls := "LeaningMarket$Reader", name := "opens", desc := "(I)V" } : Jvm.MethodName) prog_20_method_6_code (2 : Nat) (Option.none : Option Jvm.ClassFile.FieldType)) ∈ lw_all := lw_g (lw_at lw_m5 181 rfl) rfl
theorem q2548 : (Jvm.Cond.sameMethod "LeaningMarket$Reader" "LeaningMarket$Reader" "sign" "()I") ∈ lw_all := lw_g (lw_at lw_m11 54 rfl) rfl
theorem q2555 : (Jvm.Cond.sameMethod "LeaningMarket$Reader" "LeaningMarket$Reader" "wrong" "()LLeaningMarket$Wrong;") ∈ lw_all := lw_g (lw_at lw_m11 61 rfl) rfl

/-! LeaningMarket$PanReader -/
set_option maxRecDepth 100000
def RX11 : String := "LeaningMarket$PanReader"
abbrev cX11_init : ByteArray := prog_16_method_1_code
def yX11_init : MethodName := ⟨RX11, "<init>", "([BI)V"⟩
abbrev cX11_pans : ByteArray := prog_16_method_2_code
def yX11_pans : MethodName := ⟨RX11, "pans", "(I)LLeaningMarket$Cry;"⟩
abbrev cX11_other : ByteArray := prog_16_method_3_code
def yX11_other : MethodName := ⟨RX11, "other", "(II)I"⟩
theorem q125 : (Jvm.Cond.initialized "LeaningMarket$PanReader") ∈ lw_all := lw_g (lw_at lw_m1 31 rfl) rfl
theorem q911 : (Jvm.Cond.instanceMethod ({ cls := "LeaningMarket$PanReader", name := "<init>", desc := "([BI)V" } : Jvm.MethodName)) ∈ lw_all := lw_g (lw_at lw_m4 97 rfl) rfl
theorem q912 : (Jvm.Cond.code ({ cls := "LeaningMarket$PanReader", name := "<init>", desc := "([BI)V" } : Jvm.MethodName) prog_16_method_1_code (3 : Nat) (Option.none : Option Jvm.ClassFile.FieldType)) ∈ lw_all := lw_g (lw_at lw_m4 98 rfl) rfl
theorem q913 : (Jvm.Cond.methodLink "LeaningMarket$PanReader" (3 : Nat) ({ cls := "LeaningMarket$Reader", name := "<init>", desc := "([BI)V" } : Jvm.MethodName)) ∈ lw_all := lw_g (lw_at lw_m4 99 rfl) rfl
theorem q941 : (Jvm.Cond.fieldLink "LeaningMarket$PanReader" (25 : Nat) "LeaningMarket$PanReader" "from" "I") ∈ lw_all := lw_g (lw_at lw_m4 127 rfl) rfl
theorem q942 : (Jvm.Cond.sameField "LeaningMarket$PanReader" "LeaningMarket$Reader" "from" "I") ∈ lw_all := lw_g (lw_at lw_m4 128 rfl) rfl
theorem q1132 : (Jvm.Cond.declares ({ cls := "LeaningMarket$PanReader", name := "pans", desc := "(I)LLeaningMarket$Cry;" } : Jvm.MethodName)) ∈ lw_tbl := lw_at lw_m5 78 rfl
theorem q1134 : (Jvm.Cond.instanceMethod ({ cls := "LeaningMarket$PanReader", name := "pans", desc := "(I)LLeaningMarket$Cry;" } : Jvm.MethodName)) ∈ lw_all := lw_g (lw_at lw_m5 80 rfl) rfl
theorem q1135 : (Jvm.Cond.code ({ cls := "LeaningMarket$PanReader", name := "pans", desc := "(I)LLeaningMarket$Cry;" } : Jvm.MethodName) prog_16_method_2_code (5 : Nat) (Option.some (Jvm.ClassFile.FieldType.object "LeaningMarket$Cry"))) ∈ lw_all := lw_g (lw_at lw_m5 81 rfl) rfl
theorem q1136 : (Jvm.Cond.methodLink "LeaningMarket$PanReader" (9 : Nat) ({ cls := "LeaningMarket$PanReader", name := "number", desc := "(II)I" } : Jvm.MethodName)) ∈ lw_all := lw_g (lw_at lw_m5 82 rfl) rfl
theorem q1137 : (Jvm.Cond.sameMethod "LeaningMarket$PanReader" "LeaningMarket$Reader" "number" "(II)I") ∈ lw_all := lw_g (lw_at lw_m5 83 rfl) rfl
theorem q1141 : (Jvm.Cond.methodLink "LeaningMarket$PanReader" (15 : Nat) ({ cls := "LeaningMarket$PanReader", name := "other", desc := "(II)I" } : Jvm.MethodName)) ∈ lw_all := lw_g (lw_at lw_m5 87 rfl) rfl
theorem q1142 : (Jvm.Cond.instanceMethod ({ cls := "LeaningMarket$PanReader", name := "other", desc := "(II)I" } : Jvm.MethodName)) ∈ lw_all := lw_g (lw_at lw_m5 88 rfl) rfl
theorem q1143 : (Jvm.Cond.sameMethod "LeaningMarket$PanReader" "LeaningMarket$PanReader" "other" "(II)I") ∈ lw_all := lw_g (lw_at lw_m5 89 rfl) rfl
theorem q1147 : (Jvm.Cond.code ({ cls := "LeaningMarket$PanReader", name := "other", desc := "(II)I" } : Jvm.MethodName) prog_16_method_3_code (4 : Nat) (Option.some Jvm.ClassFile.FieldType.int)) ∈ lw_all := lw_g (lw_at lw_m5 93 rfl) rfl
theorem q1148 : (Jvm.Cond.classLink "LeaningMarket$PanReader" (23 : Nat) "LeaningMarket$Wrong") ∈ lw_all := lw_g (lw_at lw_m5 94 rfl) rfl
theorem q1149 : (Jvm.Cond.methodLink "LeaningMarket$PanReader" (29 : Nat) ({ cls := "LeaningMarket$Wrong", name := "<init>", desc := "(II)V" } : Jvm.MethodName)) ∈ lw_all := lw_g (lw_at lw_m5 95 rfl) rfl
theorem q1150 : (Jvm.Cond.classLink "LeaningMarket$PanReader" (18 : Nat) "LeaningMarket$Cry") ∈ lw_all := lw_g (lw_at lw_m5 96 rfl) rfl
theorem q1152 : (Jvm.Cond.methodLink "LeaningMarket$PanReader" (20 : Nat) ({ cls := "LeaningMarket$Cry", name := "<init>", desc := "(IIII)V" } : Jvm.MethodName)) ∈ lw_all := lw_g (lw_at lw_m5 98 rfl) rfl
theorem q1668 : (Jvm.Cond.declares ({ cls := "LeaningMarket$PanReader", name := "other", desc := "(II)I" } : Jvm.MethodName)) ∈ lw_tbl := lw_at lw_m7 134 rfl

/-! LeaningMarket$MarketReader -/
set_option maxRecDepth 100000
def RX12 : String := "LeaningMarket$MarketReader"
def TX12 : u_T := fun k => match k with
  | 0 => ("LeaningMarket$Reader", "text", "[B", true)
  | 1 => ("LeaningMarket$Reader", "size", "I", true)
  | 2 => ("LeaningMarket$Reader", "next", "I", false)
  | 3 => ("LeaningMarket$Reader", "from", "I", false)
  | 4 => ("LeaningMarket$Reader", "open", "I", false)
  | _ => ("LeaningMarket$MarketReader", "t", "LLeaningMarket$Told;", true)
def tyX12 : Nat → FieldType := fun k => match k with
  | 0 => .array .byte
  | 1 => .int
  | 2 => .int
  | 3 => .int
  | 4 => .int
  | _ => .object "LeaningMarket$Told"
abbrev wsX120 : List Cond := u_ws RX12 TX12 6
theorem nmX12 : ∀ a, a < 6 → ∀ b, b < 6 → a ≠ b → (TX12 a).2.1 ≠ (TX12 b).2.1 := by decide +kernel
theorem tyX12_ok : ∀ k, k < 6 → parseFieldDescriptor (TX12 k).2.2.1 = some (tyX12 k) := by decide +kernel
abbrev cX12_init : ByteArray := prog_13_method_1_code
def yX12_init : MethodName := ⟨RX12, "<init>", "([BI)V"⟩
abbrev cX12_reads : ByteArray := prog_13_method_2_code
def yX12_reads : MethodName := ⟨RX12, "reads", "()LLeaningMarket$Told;"⟩
abbrev cX12_clause : ByteArray := prog_13_method_4_code
def yX12_clause : MethodName := ⟨RX12, "clause", "(Ljava/lang/String;)V"⟩
abbrev cX12_isFull : ByteArray := prog_13_method_3_code
def yX12_isFull : MethodName := ⟨RX12, "isFull", "(Ljava/lang/String;)Z"⟩
theorem q126 : (Jvm.Cond.initialized "LeaningMarket$MarketReader") ∈ lw_all := lw_g (lw_at lw_m1 32 rfl) rfl
theorem q506 : (Jvm.Cond.fieldLinkNest "LeaningMarket$MarketReader" (88 : Nat) "LeaningMarket$Told" "weight" "[I" "LeaningMarket") ∈ lw_tbl := lw_at lw_m2 172 rfl
theorem q510 : (Jvm.Cond.fieldLinkNest "LeaningMarket$MarketReader" (62 : Nat) "LeaningMarket$Told" "cries" "Ljava/util/ArrayList;" "LeaningMarket") ∈ lw_tbl := lw_at lw_m2 176 rfl
theorem q511 : (Jvm.Cond.fieldLinkNest "LeaningMarket$MarketReader" (59 : Nat) "LeaningMarket$Told" "things" "I" "LeaningMarket") ∈ lw_tbl := lw_at lw_m2 177 rfl
theorem q516 : (Jvm.Cond.fieldLinkNest "LeaningMarket$MarketReader" (106 : Nat) "LeaningMarket$Told" "lean" "I" "LeaningMarket") ∈ lw_tbl := lw_at lw_m2 182 rfl
theorem q517 : (Jvm.Cond.fieldLinkNest "LeaningMarket$MarketReader" (103 : Nat) "LeaningMarket$Told" "play" "I" "LeaningMarket") ∈ lw_tbl := lw_at lw_m2 183 rfl
theorem q520 : (Jvm.Cond.fieldLinkNest "LeaningMarket$MarketReader" (43 : Nat) "LeaningMarket$Told" "clauses" "I" "LeaningMarket") ∈ lw_tbl := lw_at lw_m2 186 rfl
theorem q701 : (Jvm.Cond.selects "LeaningMarket$MarketReader" ({ cls := "java/lang/Object", name := "getClass", desc := "()Ljava/lang/Class;" } : Jvm.MethodName) ({ cls := "java/lang/Object", name := "getClass", desc := "()Ljava/lang/Class;" } : Jvm.MethodName)) ∈ lw_all := lw_g (lw_at lw_m3 127 rfl) rfl
theorem q906 : (Jvm.Cond.instantiable "LeaningMarket$MarketReader" (6 : Nat)) ∈ lw_all := lw_g (lw_at lw_m4 92 rfl) rfl
theorem q908 : (Jvm.Cond.instanceMethod ({ cls := "LeaningMarket$MarketReader", name := "<init>", desc := "([BI)V" } : Jvm.MethodName)) ∈ lw_all := lw_g (lw_at lw_m4 94 rfl) rfl
theorem q909 : (Jvm.Cond.code ({ cls := "LeaningMarket$MarketReader", name := "<init>", desc := "([BI)V" } : Jvm.MethodName) prog_13_method_1_code (3 : Nat) (Option.none : Option Jvm.ClassFile.FieldType)) ∈ lw_all := lw_g (lw_at lw_m4 95 rfl) rfl
theorem q910 : (Jvm.Cond.methodLink "LeaningMarket$MarketReader" (3 : Nat) ({ cls := "LeaningMarket$PanReader", name := "<init>", desc := "([BI)V" } : Jvm.MethodName)) ∈ lw_all := lw_g (lw_at lw_m4 96 rfl) rfl
theorem q917 : (Jvm.Cond.classLink "LeaningMarket$MarketReader" (9 : Nat) "LeaningMarket$Told") ∈ lw_all := lw_g (lw_at lw_m4 103 rfl) rfl
theorem q918 : (Jvm.Cond.methodLinkNest "LeaningMarket$MarketReader" (11 : Nat) ({ cls := "LeaningMarket$Told", name := "<init>", desc := "()V" } : Jvm.MethodName) "LeaningMarket") ∈ lw_tbl := lw_at lw_m4 104 rfl
theorem q919 : (Jvm.Cond.fieldLink "LeaningMarket$MarketReader" (14 : Nat) "LeaningMarket$MarketReader" "t" "LLeaningMarket$Told;") ∈ lw_all := lw_g (lw_at lw_m4 105 rfl) rfl
theorem q922 : (Jvm.Cond.fieldLink "LeaningMarket$MarketReader" (28 : Nat) "LeaningMarket$MarketReader" "size" "I") ∈ lw_all := lw_g (lw_at lw_m4 108 rfl) rfl
theorem q923 : (Jvm.Cond.sameField "LeaningMarket$MarketReader" "LeaningMarket$Reader" "size" "I") ∈ lw_all := lw_g (lw_at lw_m4 109 rfl) rfl
theorem q931 : (Jvm.Cond.fieldLink "LeaningMarket$MarketReader" (24 : Nat) "LeaningMarket$MarketReader" "next" "I") ∈ lw_all := lw_g (lw_at lw_m4 117 rfl) rfl
theorem q932 : (Jvm.Cond.sameField "LeaningMarket$MarketReader" "LeaningMarket$Reader" "next" "I") ∈ lw_all := lw_g (lw_at lw_m4 118 rfl) rfl
theorem q949 : (Jvm.Cond.laysFinal "LeaningMarket$MarketReader" "LeaningMarket$MarketReader" "t" "LLeaningMarket$Told;") ∈ lw_all := lw_g (lw_at lw_m4 135 rfl) rfl
theorem q950 : (Jvm.Cond.soleField "LeaningMarket$MarketReader" "t") ∈ lw_all := lw_g (lw_at lw_m4 136 rfl) rfl
theorem q951 : (Jvm.Cond.laysFinal "LeaningMarket$MarketReader" "LeaningMarket$Reader" "text" "[B") ∈ lw_all := lw_g (lw_at lw_m4 137 rfl) rfl
theorem q953 : (Jvm.Cond.laysFinal "LeaningMarket$MarketReader" "LeaningMarket$Reader" "size" "I") ∈ lw_all := lw_g (lw_at lw_m4 139 rfl) rfl
theorem q955 : (Jvm.Cond.lays "LeaningMarket$MarketReader" "LeaningMarket$Reader" "next" "I") ∈ lw_all := lw_g (lw_at lw_m4 141 rfl) rfl
theorem q957 : (Jvm.Cond.lays "LeaningMarket$MarketReader" "LeaningMarket$Reader" "from" "I") ∈ lw_all := lw_g (lw_at lw_m4 143 rfl) rfl
theorem q959 : (Jvm.Cond.lays "LeaningMarket$MarketReader" "LeaningMarket$Reader" "open" "I") ∈ lw_all := lw_g (lw_at lw_m4 145 rfl) rfl
theorem q961 : (Jvm.Cond.superclass "LeaningMarket$MarketReader" "LeaningMarket$PanReader") ∈ lw_all := lw_g (lw_at lw_m4 147 rfl) rfl
theorem q963 : (Jvm.Cond.instanceMethod ({ cls := "LeaningMarket$MarketReader", name := "reads", desc := "()LLeaningMarket$Told;" } : Jvm.MethodName)) ∈ lw_all := lw_g (lw_at lw_m4 149 rfl) rfl
theorem q964 : (Jvm.Cond.selects "LeaningMarket$MarketReader" ({ cls := "LeaningMarket$MarketReader", name := "reads", desc := "()LLeaningMarket$Told;" } : Jvm.MethodName) ({ cls := "LeaningMarket$MarketReader", name := "reads", desc := "()LLeaningMarket$Told;" } : Jvm.MethodName)) ∈ lw_all := lw_g (lw_at lw_m4 150 rfl) rfl
theorem q965 : (Jvm.Cond.code ({ cls := "LeaningMarket$MarketReader", name := "reads", desc := "()LLeaningMarket$Told;" } : Jvm.MethodName) prog_13_method_2_code (1 : Nat) (Option.some (Jvm.ClassFile.FieldType.object "LeaningMarket$Told"))) ∈ lw_all := lw_g (lw_at lw_m4 151 rfl) rfl
theorem q966 : (Jvm.Cond.methodLink "LeaningMarket$MarketReader" (20 : Nat) ({ cls := "LeaningMarket$MarketReader", name := "sign", desc := "()I" } : Jvm.MethodName)) ∈ lw_all := lw_g (lw_at lw_m4 152 rfl) rfl
theorem q967 : (Jvm.Cond.sameMethod "LeaningMarket$MarketReader" "LeaningMarket$Reader" "sign" "()I") ∈ lw_all := lw_g (lw_at lw_m4 153 rfl) rfl
theorem q969 : (Jvm.Cond.selects "LeaningMarket$MarketReader" ({ cls := "LeaningMarket$MarketReader", name := "sign", desc := "()I" } : Jvm.MethodName) ({ cls := "LeaningMarket$Reader", name := "sign", desc := "()I" } : Jvm.MethodName)) ∈ lw_all := lw_g (lw_at lw_m4 155 rfl) rfl
theorem q972 : (Jvm.Cond.methodLink "LeaningMarket$MarketReader" (31 : Nat) ({ cls := "LeaningMarket$MarketReader", name := "word", desc := "()Ljava/lang/String;" } : Jvm.MethodName)) ∈ lw_all := lw_g (lw_at lw_m4 158 rfl) rfl
theorem q973 : (Jvm.Cond.sameMethod "LeaningMarket$MarketReader" "LeaningMarket$Reader" "word" "()Ljava/lang/String;") ∈ lw_all := lw_g (lw_at lw_m4 159 rfl) rfl
theorem q975 : (Jvm.Cond.selects "LeaningMarket$MarketReader" ({ cls := "LeaningMarket$MarketReader", name := "word", desc := "()Ljava/lang/String;" } : Jvm.MethodName) ({ cls := "LeaningMarket$Reader", name := "word", desc := "()Ljava/lang/String;" } : Jvm.MethodName)) ∈ lw_all := lw_g (lw_at lw_m4 161 rfl) rfl
theorem q1003 : (Jvm.Cond.methodLink "LeaningMarket$MarketReader" (35 : Nat) ({ cls := "LeaningMarket$MarketReader", name := "clause", desc := "(Ljava/lang/String;)V" } : Jvm.MethodName)) ∈ lw_all := lw_g (lw_at lw_m4 189 rfl) rfl
theorem q1004 : (Jvm.Cond.privateMethod ({ cls := "LeaningMarket$MarketReader", name := "clause", desc := "(Ljava/lang/String;)V" } : Jvm.MethodName)) ∈ lw_tbl := lw_at lw_m4 190 rfl
theorem q1005 : (Jvm.Cond.instanceMethod ({ cls := "LeaningMarket$MarketReader", name := "clause", desc := "(Ljava/lang/String;)V" } : Jvm.MethodName)) ∈ lw_all := lw_g (lw_at lw_m4 191 rfl) rfl
theorem q1006 : (Jvm.Cond.code ({ cls := "LeaningMarket$MarketReader", name := "clause", desc := "(Ljava/lang/String;)V" } : Jvm.MethodName) prog_13_method_4_code (5 : Nat) (Option.none : Option Jvm.ClassFile.FieldType)) ∈ lw_all := lw_g (lw_at lw_m4 192 rfl) rfl
theorem q1007 : (Jvm.Cond.methodLink "LeaningMarket$MarketReader" (46 : Nat) ({ cls := "java/lang/String", name := "hashCode", desc := "()I" } : Jvm.MethodName)) ∈ lw_all := lw_g (lw_at lw_m4 193 rfl) rfl
theorem q1068 : (Jvm.Cond.stringRef "LeaningMarket$MarketReader" (51 : Nat) "thing") ∈ lw_tbl := lw_at lw_m5 14 rfl
theorem q1069 : (Jvm.Cond.methodLink "LeaningMarket$MarketReader" (53 : Nat) ({ cls := "java/lang/String", name := "equals", desc := "(Ljava/lang/Object;)Z" } : Jvm.MethodName)) ∈ lw_all := lw_g (lw_at lw_m5 15 rfl) rfl
theorem q1077 : (Jvm.Cond.stringRef "LeaningMarket$MarketReader" (57 : Nat) "cry") ∈ lw_tbl := lw_at lw_m5 23 rfl
theorem q1078 : (Jvm.Cond.stringRef "LeaningMarket$MarketReader" (70 : Nat) "beam") ∈ lw_tbl := lw_at lw_m5 24 rfl
theorem q1079 : (Jvm.Cond.methodLink "LeaningMarket$MarketReader" (72 : Nat) ({ cls := "LeaningMarket$MarketReader", name := "wrong", desc := "()LLeaningMarket$Wrong;" } : Jvm.MethodName)) ∈ lw_all := lw_g (lw_at lw_m5 25 rfl) rfl
theorem q1080 : (Jvm.Cond.sameMethod "LeaningMarket$MarketReader" "LeaningMarket$Reader" "wrong" "()LLeaningMarket$Wrong;") ∈ lw_all := lw_g (lw_at lw_m5 26 rfl) rfl
theorem q1082 : (Jvm.Cond.selects "LeaningMarket$MarketReader" ({ cls := "LeaningMarket$MarketReader", name := "wrong", desc := "()LLeaningMarket$Wrong;" } : Jvm.MethodName) ({ cls := "LeaningMarket$Reader", name := "wrong", desc := "()LLeaningMarket$Wrong;" } : Jvm.MethodName)) ∈ lw_all := lw_g (lw_at lw_m5 28 rfl) rfl
theorem q1113 : (Jvm.Cond.methodLink "LeaningMarket$MarketReader" (76 : Nat) ({ cls := "LeaningMarket$MarketReader", name := "isFull", desc := "(Ljava/lang/String;)Z" } : Jvm.MethodName)) ∈ lw_all := lw_g (lw_at lw_m5 59 rfl) rfl
theorem q1114 : (Jvm.Cond.privateMethod ({ cls := "LeaningMarket$MarketReader", name := "isFull", desc := "(Ljava/lang/String;)Z" } : Jvm.MethodName)) ∈ lw_tbl := lw_at lw_m5 60 rfl
theorem q1115 : (Jvm.Cond.instanceMethod ({ cls := "LeaningMarket$MarketReader", name := "isFull", desc := "(Ljava/lang/String;)Z" } : Jvm.MethodName)) ∈ lw_all := lw_g (lw_at lw_m5 61 rfl) rfl
theorem q1116 : (Jvm.Cond.code ({ cls := "LeaningMarket$MarketReader", name := "isFull", desc := "(Ljava/lang/String;)Z" } : Jvm.MethodName) prog_13_method_3_code (4 : Nat) (Option.some Jvm.ClassFile.FieldType.boolean)) ∈ lw_all := lw_g (lw_at lw_m5 62 rfl) rfl
theorem q1117 : (Jvm.Cond.methodLink "LeaningMarket$MarketReader" (66 : Nat) ({ cls := "java/util/ArrayList", name := "size", desc := "()I" } : Jvm.MethodName)) ∈ lw_all := lw_g (lw_at lw_m5 63 rfl) rfl
theorem q1118 : (Jvm.Cond.classLink "LeaningMarket$MarketReader" (80 : Nat) "LeaningMarket$Wrong") ∈ lw_all := lw_g (lw_at lw_m5 64 rfl) rfl
theorem q1119 : (Jvm.Cond.methodLink "LeaningMarket$MarketReader" (82 : Nat) ({ cls := "LeaningMarket$Wrong", name := "<init>", desc := "(II)V" } : Jvm.MethodName)) ∈ lw_all := lw_g (lw_at lw_m5 65 rfl) rfl
theorem q1120 : (Jvm.Cond.methodLink "LeaningMarket$MarketReader" (85 : Nat) ({ cls := "java/lang/String", name := "length", desc := "()I" } : Jvm.MethodName)) ∈ lw_all := lw_g (lw_at lw_m5 66 rfl) rfl
theorem q1121 : (Jvm.Cond.methodLink "LeaningMarket$MarketReader" (92 : Nat) ({ cls := "LeaningMarket$MarketReader", name := "number", desc := "(II)I" } : Jvm.MethodName)) ∈ lw_all := lw_g (lw_at lw_m5 67 rfl) rfl
theorem q1122 : (Jvm.Cond.sameMethod "LeaningMarket$MarketReader" "LeaningMarket$Reader" "number" "(II)I") ∈ lw_all := lw_g (lw_at lw_m5 68 rfl) rfl
theorem q1124 : (Jvm.Cond.selects "LeaningMarket$MarketReader" ({ cls := "LeaningMarket$MarketReader", name := "number", desc := "(II)I" } : Jvm.MethodName) ({ cls := "LeaningMarket$Reader", name := "number", desc := "(II)I" } : Jvm.MethodName)) ∈ lw_all := lw_g (lw_at lw_m5 70 rfl) rfl
theorem q1130 : (Jvm.Cond.methodLink "LeaningMarket$MarketReader" (96 : Nat) ({ cls := "LeaningMarket$MarketReader", name := "pans", desc := "(I)LLeaningMarket$Cry;" } : Jvm.MethodName)) ∈ lw_all := lw_g (lw_at lw_m5 76 rfl) rfl
theorem q1131 : (Jvm.Cond.sameMethod "LeaningMarket$MarketReader" "LeaningMarket$PanReader" "pans" "(I)LLeaningMarket$Cry;") ∈ lw_all := lw_g (lw_at lw_m5 77 rfl) rfl
theorem q1133 : (Jvm.Cond.selects "LeaningMarket$MarketReader" ({ cls := "LeaningMarket$MarketReader", name := "pans", desc := "(I)LLeaningMarket$Cry;" } : Jvm.MethodName) ({ cls := "LeaningMarket$PanReader", name := "pans", desc := "(I)LLeaningMarket$Cry;" } : Jvm.MethodName)) ∈ lw_all := lw_g (lw_at lw_m5 79 rfl) rfl
theorem q1139 : (Jvm.Cond.selects "LeaningMarket$MarketReader" ({ cls := "LeaningMarket$PanReader", name := "number", desc := "(II)I" } : Jvm.MethodName) ({ cls := "LeaningMarket$Reader", name := "number", desc := "(II)I" } : Jvm.MethodName)) ∈ lw_all := lw_g (lw_at lw_m5 85 rfl) rfl
theorem q1145 : (Jvm.Cond.selects "LeaningMarket$MarketReader" ({ cls := "LeaningMarket$PanReader", name := "other", desc := "(II)I" } : Jvm.MethodName) ({ cls := "LeaningMarket$PanReader", name := "other", desc := "(II)I" } : Jvm.MethodName)) ∈ lw_all := lw_g (lw_at lw_m5 91 rfl) rfl
theorem q1181 : (Jvm.Cond.methodLink "LeaningMarket$MarketReader" (100 : Nat) ({ cls := "java/util/ArrayList", name := "add", desc := "(Ljava/lang/Object;)Z" } : Jvm.MethodName)) ∈ lw_all := lw_g (lw_at lw_m5 127 rfl) rfl
theorem q1182 : (Jvm.Cond.methodLink "LeaningMarket$MarketReader" (39 : Nat) ({ cls := "LeaningMarket$MarketReader", name := "need", desc := "(I)V" } : Jvm.MethodName)) ∈ lw_all := lw_g (lw_at lw_m5 128 rfl) rfl
theorem q1183 : (Jvm.Cond.sameMethod "LeaningMarket$MarketReader" "LeaningMarket$Reader" "need" "(I)V") ∈ lw_all := lw_g (lw_at lw_m5 129 rfl) rfl
theorem q1185 : (Jvm.Cond.selects "LeaningMarket$MarketReader" ({ cls := "LeaningMarket$MarketReader", name := "need", desc := "(I)V" } : Jvm.MethodName) ({ cls := "LeaningMarket$Reader", name := "need", desc := "(I)V" } : Jvm.MethodName)) ∈ lw_all := lw_g (lw_at lw_m5 131 rfl) rfl
theorem q2551 : (Jvm.Cond.selects "LeaningMarket$MarketReader" ({ cls := "LeaningMarket$Reader", name := "sign", desc := "()I" } : Jvm.MethodName) ({ cls := "LeaningMarket$Reader", name := "sign", desc := "()I" } : Jvm.MethodName)) ∈ lw_all := lw_g (lw_at lw_m11 57 rfl) rfl
theorem q2558 : (Jvm.Cond.selects "LeaningMarket$MarketReader" ({ cls := "LeaningMarket$Reader", name := "wrong", desc := "()LLeaningMarket$Wrong;" } : Jvm.MethodName) ({ cls := "LeaningMarket$Reader", name := "wrong", desc := "()LLeaningMarket$Wrong;" } : Jvm.MethodName)) ∈ lw_all := lw_g (lw_at lw_m11 64 rfl) rfl
theorem q2578 : (Jvm.Cond.castable "LeaningMarket$MarketReader" "java/lang/Object") ∈ lw_tbl := lw_at lw_m11 84 rfl
theorem in_X12 : ∀ w ∈ wsX120, w ∈ lw_all := lw_in wsX120 [951, 953, 955, 957, 959, 949] (by decide +kernel) (by decide +kernel)

/-! LeaningMarket$Wrong -/
set_option maxRecDepth 100000
def RX13 : String := "LeaningMarket$Wrong"
def TX13 : u_T := fun k => match k with
  | 0 => ("java/lang/Throwable", "cause", "Ljava/lang/Throwable;", false)
  | 1 => ("java/lang/Throwable", "stackTrace", "[Ljava/lang/StackTraceElement;", false)
  | 2 => ("java/lang/Throwable", "suppressedExceptions", "Ljava/util/List;", false)
  | 3 => ("java/lang/Throwable", "detailMessage", "Ljava/lang/String;", false)
  | 4 => ("java/lang/Throwable", "backtrace", "Ljava/lang/Object;", false)
  | 5 => ("java/lang/Throwable", "depth", "I", false)
  | 6 => ("LeaningMarket$Wrong", "kind", "I", true)
  | _ => ("LeaningMarket$Wrong", "place", "I", true)
def tyX13 : Nat → FieldType := fun k => match k with
  | 0 => .object "java/lang/Throwable"
  | 1 => .array (.object "java/lang/StackTraceElement")
  | 2 => .object "java/util/List"
  | 3 => .object "java/lang/String"
  | 4 => .object "java/lang/Object"
  | 5 => .int
  | 6 => .int
  | _ => .int
abbrev wsX130 : List Cond := u_ws RX13 TX13 8
theorem nmX13 : ∀ a, a < 8 → ∀ b, b < 8 → a ≠ b → (TX13 a).2.1 ≠ (TX13 b).2.1 := by decide +kernel
theorem tyX13_ok : ∀ k, k < 8 → parseFieldDescriptor (TX13 k).2.2.1 = some (tyX13 k) := by decide +kernel
abbrev cX13_init : ByteArray := prog_30_method_1_code
def yX13_init : MethodName := ⟨RX13, "<init>", "(II)V"⟩
theorem q127 : (Jvm.Cond.initialized "LeaningMarket$Wrong") ∈ lw_all := lw_g (lw_at lw_m1 33 rfl) rfl
theorem q210 : (Jvm.Cond.selects "LeaningMarket$Wrong" ({ cls := "java/lang/Throwable", name := "fillInStackTrace", desc := "()Ljava/lang/Throwable;" } : Jvm.MethodName) ({ cls := "java/lang/Throwable", name := "fillInStackTrace", desc := "()Ljava/lang/Throwable;" } : Jvm.MethodName)) ∈ lw_all := lw_g (lw_at lw_m1 116 rfl) rfl
theorem q713 : (Jvm.Cond.selects "LeaningMarket$Wrong" ({ cls := "java/lang/Object", name := "getClass", desc := "()Ljava/lang/Class;" } : Jvm.MethodName) ({ cls := "java/lang/Object", name := "getClass", desc := "()Ljava/lang/Class;" } : Jvm.MethodName)) ∈ lw_all := lw_g (lw_at lw_m3 139 rfl) rfl
theorem q1086 : (Jvm.Cond.instantiable "LeaningMarket$Wrong" (8 : Nat)) ∈ lw_all := lw_g (lw_at lw_m5 32 rfl) rfl
theorem q1087 : (Jvm.Cond.castable "LeaningMarket$Wrong" "LeaningMarket$Wrong") ∈ lw_tbl := lw_at lw_m5 33 rfl
theorem q1088 : (Jvm.Cond.selects "LeaningMarket$Wrong" ({ cls := "java/lang/Throwable", name := "fillInStackTrace", desc := "(I)Ljava/lang/Throwable;" } : Jvm.MethodName) ({ cls := "java/lang/Throwable", name := "fillInStackTrace", desc := "(I)Ljava/lang/Throwable;" } : Jvm.MethodName)) ∈ lw_all := lw_g (lw_at lw_m5 34 rfl) rfl
theorem q1089 : (Jvm.Cond.lays "LeaningMarket$Wrong" "java/lang/Throwable" "cause" "Ljava/lang/Throwable;") ∈ lw_all := lw_g (lw_at lw_m5 35 rfl) rfl
theorem q1090 : (Jvm.Cond.lays "LeaningMarket$Wrong" "java/lang/Throwable" "stackTrace" "[Ljava/lang/StackTraceElement;") ∈ lw_all := lw_g (lw_at lw_m5 36 rfl) rfl
theorem q1091 : (Jvm.Cond.lays "LeaningMarket$Wrong" "java/lang/Throwable" "suppressedExceptions" "Ljava/util/List;") ∈ lw_all := lw_g (lw_at lw_m5 37 rfl) rfl
theorem q1092 : (Jvm.Cond.lays "LeaningMarket$Wrong" "java/lang/Throwable" "detailMessage" "Ljava/lang/String;") ∈ lw_all := lw_g (lw_at lw_m5 38 rfl) rfl
theorem q1093 : (Jvm.Cond.lays "LeaningMarket$Wrong" "java/lang/Throwable" "backtrace" "Ljava/lang/Object;") ∈ lw_all := lw_g (lw_at lw_m5 39 rfl) rfl
theorem q1095 : (Jvm.Cond.instanceMethod ({ cls := "LeaningMarket$Wrong", name := "<init>", desc := "(II)V" } : Jvm.MethodName)) ∈ lw_all := lw_g (lw_at lw_m5 41 rfl) rfl
theorem q1096 : (Jvm.Cond.code ({ cls := "LeaningMarket$Wrong", name := "<init>", desc := "(II)V" } : Jvm.MethodName) prog_30_method_1_code (3 : Nat) (Option.none : Option Jvm.ClassFile.FieldType)) ∈ lw_all := lw_g (lw_at lw_m5 42 rfl) rfl
theorem q1097 : (Jvm.Cond.methodLink "LeaningMarket$Wrong" (1 : Nat) ({ cls := "java/lang/Exception", name := "<init>", desc := "(Ljava/lang/String;Ljava/lang/Throwable;ZZ)V" } : Jvm.MethodName)) ∈ lw_all := lw_g (lw_at lw_m5 43 rfl) rfl
theorem q1103 : (Jvm.Cond.fieldLink "LeaningMarket$Wrong" (7 : Nat) "LeaningMarket$Wrong" "kind" "I") ∈ lw_all := lw_g (lw_at lw_m5 49 rfl) rfl
theorem q1105 : (Jvm.Cond.fieldLink "LeaningMarket$Wrong" (13 : Nat) "LeaningMarket$Wrong" "place" "I") ∈ lw_all := lw_g (lw_at lw_m5 51 rfl) rfl
theorem q1107 : (Jvm.Cond.laysFinal "LeaningMarket$Wrong" "LeaningMarket$Wrong" "kind" "I") ∈ lw_all := lw_g (lw_at lw_m5 53 rfl) rfl
theorem q1108 : (Jvm.Cond.soleField "LeaningMarket$Wrong" "kind") ∈ lw_all := lw_g (lw_at lw_m5 54 rfl) rfl
theorem q1109 : (Jvm.Cond.laysFinal "LeaningMarket$Wrong" "LeaningMarket$Wrong" "place" "I") ∈ lw_all := lw_g (lw_at lw_m5 55 rfl) rfl
theorem q1110 : (Jvm.Cond.soleField "LeaningMarket$Wrong" "place") ∈ lw_all := lw_g (lw_at lw_m5 56 rfl) rfl
theorem q1111 : (Jvm.Cond.lays "LeaningMarket$Wrong" "java/lang/Throwable" "depth" "I") ∈ lw_all := lw_g (lw_at lw_m5 57 rfl) rfl
theorem q1112 : (Jvm.Cond.superclass "LeaningMarket$Wrong" "java/lang/Exception") ∈ lw_all := lw_g (lw_at lw_m5 58 rfl) rfl
theorem q2580 : (Jvm.Cond.castable "LeaningMarket$Wrong" "java/lang/Object") ∈ lw_tbl := lw_at lw_m11 86 rfl
theorem in_X13 : ∀ w ∈ wsX130, w ∈ lw_all := lw_in wsX130 [1089, 1090, 1091, 1092, 1093, 1111, 1107, 1109] (by decide +kernel) (by decide +kernel)

/-! LeaningMarket$Cry -/
set_option maxRecDepth 100000
def RX14 : String := "LeaningMarket$Cry"
def TX14 : u_T := fun k => match k with
  | 0 => ("LeaningMarket$Cry", "a", "I", true)
  | 1 => ("LeaningMarket$Cry", "n", "I", true)
  | 2 => ("LeaningMarket$Cry", "b", "I", true)
  | _ => ("LeaningMarket$Cry", "m", "I", true)
def tyX14 : Nat → FieldType := fun k => match k with
  | 0 => .int
  | 1 => .int
  | 2 => .int
  | _ => .int
abbrev wsX140 : List Cond := u_ws RX14 TX14 4
theorem nmX14 : ∀ a, a < 4 → ∀ b, b < 4 → a ≠ b → (TX14 a).2.1 ≠ (TX14 b).2.1 := by decide +kernel
theorem tyX14_ok : ∀ k, k < 4 → parseFieldDescriptor (TX14 k).2.2.1 = some (tyX14 k) := by decide +kernel
abbrev cX14_init : ByteArray := prog_6_method_1_code
def yX14_init : MethodName := ⟨RX14, "<init>", "(IIII)V"⟩
abbrev cX14_isOf : ByteArray := prog_6_method_3_code
def yX14_isOf : MethodName := ⟨RX14, "isOf", "(I)Z"⟩
abbrev cX14_isLike : ByteArray := prog_6_method_2_code
def yX14_isLike : MethodName := ⟨RX14, "isLike", "(LLeaningMarket$Cry;)Z"⟩
theorem q128 : (Jvm.Cond.initialized "LeaningMarket$Cry") ∈ lw_all := lw_g (lw_at lw_m1 34 rfl) rfl
theorem q694 : (Jvm.Cond.selects "LeaningMarket$Cry" ({ cls := "java/lang/Object", name := "getClass", desc := "()Ljava/lang/Class;" } : Jvm.MethodName) ({ cls := "java/lang/Object", name := "getClass", desc := "()Ljava/lang/Class;" } : Jvm.MethodName)) ∈ lw_all := lw_g (lw_at lw_m3 120 rfl) rfl
theorem q1151 : (Jvm.Cond.instantiable "LeaningMarket$Cry" (4 : Nat)) ∈ lw_all := lw_g (lw_at lw_m5 97 rfl) rfl
theorem q1153 : (Jvm.Cond.instanceMethod ({ cls := "LeaningMarket$Cry", name := "<init>", desc := "(IIII)V" } : Jvm.MethodName)) ∈ lw_all := lw_g (lw_at lw_m5 99 rfl) rfl
theorem q1154 : (Jvm.Cond.code ({ cls := "LeaningMarket$Cry", name := "<init>", desc := "(IIII)V" } : Jvm.MethodName) prog_6_method_1_code (5 : Nat) (Option.none : Option Jvm.ClassFile.FieldType)) ∈ lw_all := lw_g (lw_at lw_m5 100 rfl) rfl
theorem q1155 : (Jvm.Cond.methodLink "LeaningMarket$Cry" (1 : Nat) ({ cls := "java/lang/Object", name := "<init>", desc := "()V" } : Jvm.MethodName)) ∈ lw_all := lw_g (lw_at lw_m5 101 rfl) rfl
theorem q1156 : (Jvm.Cond.fieldLink "LeaningMarket$Cry" (7 : Nat) "LeaningMarket$Cry" "a" "I") ∈ lw_all := lw_g (lw_at lw_m5 102 rfl) rfl
theorem q1160 : (Jvm.Cond.fieldLink "LeaningMarket$Cry" (13 : Nat) "LeaningMarket$Cry" "n" "I") ∈ lw_all := lw_g (lw_at lw_m5 106 rfl) rfl
theorem q1164 : (Jvm.Cond.fieldLink "LeaningMarket$Cry" (16 : Nat) "LeaningMarket$Cry" "b" "I") ∈ lw_all := lw_g (lw_at lw_m5 110 rfl) rfl
theorem q1168 : (Jvm.Cond.fieldLink "LeaningMarket$Cry" (19 : Nat) "LeaningMarket$Cry" "m" "I") ∈ lw_all := lw_g (lw_at lw_m5 114 rfl) rfl
theorem q1172 : (Jvm.Cond.laysFinal "LeaningMarket$Cry" "LeaningMarket$Cry" "a" "I") ∈ lw_all := lw_g (lw_at lw_m5 118 rfl) rfl
theorem q1173 : (Jvm.Cond.soleField "LeaningMarket$Cry" "a") ∈ lw_all := lw_g (lw_at lw_m5 119 rfl) rfl
theorem q1174 : (Jvm.Cond.laysFinal "LeaningMarket$Cry" "LeaningMarket$Cry" "n" "I") ∈ lw_all := lw_g (lw_at lw_m5 120 rfl) rfl
theorem q1175 : (Jvm.Cond.soleField "LeaningMarket$Cry" "n") ∈ lw_all := lw_g (lw_at lw_m5 121 rfl) rfl
theorem q1176 : (Jvm.Cond.laysFinal "LeaningMarket$Cry" "LeaningMarket$Cry" "b" "I") ∈ lw_all := lw_g (lw_at lw_m5 122 rfl) rfl
theorem q1177 : (Jvm.Cond.soleField "LeaningMarket$Cry" "b") ∈ lw_all := lw_g (lw_at lw_m5 123 rfl) rfl
theorem q1178 : (Jvm.Cond.laysFinal "LeaningMarket$Cry" "LeaningMarket$Cry" "m" "I") ∈ lw_all := lw_g (lw_at lw_m5 124 rfl) rfl
theorem q1179 : (Jvm.Cond.soleField "LeaningMarket$Cry" "m") ∈ lw_all := lw_g (lw_at lw_m5 125 rfl) rfl
theorem q1180 : (Jvm.Cond.superclass "LeaningMarket$Cry" "java/lang/Object") ∈ lw_all := lw_g (lw_at lw_m5 126 rfl) rfl
theorem q1518 : (Jvm.Cond.instanceMethod ({ cls := "LeaningMarket$Cry", name := "isOf", desc := "(I)Z" } : Jvm.MethodName)) ∈ lw_all := lw_g (lw_at lw_m6 224 rfl) rfl
theorem q1519 : (Jvm.Cond.selects "LeaningMarket$Cry" ({ cls := "LeaningMarket$Cry", name := "isOf", desc := "(I)Z" } : Jvm.MethodName) ({ cls := "LeaningMarket$Cry", name := "isOf", desc := "(I)Z" } : Jvm.MethodName)) ∈ lw_all := lw_g (lw_at lw_m6 225 rfl) rfl
theorem q1520 : (Jvm.Cond.code ({ cls := "LeaningMarket$Cry", name := "isOf", desc := "(I)Z" } : Jvm.MethodName) prog_6_method_3_code (2 : Nat) (Option.some Jvm.ClassFile.FieldType.boolean)) ∈ lw_all := lw_g (lw_at lw_m6 226 rfl) rfl
theorem q1617 : (Jvm.Cond.instanceMethod ({ cls := "LeaningMarket$Cry", name := "isLike", desc := "(LLeaningMarket$Cry;)Z" } : Jvm.MethodName)) ∈ lw_all := lw_g (lw_at lw_m7 83 rfl) rfl
theorem q1618 : (Jvm.Cond.selects "LeaningMarket$Cry" ({ cls := "LeaningMarket$Cry", name := "isLike", desc := "(LLeaningMarket$Cry;)Z" } : Jvm.MethodName) ({ cls := "LeaningMarket$Cry", name := "isLike", desc := "(LLeaningMarket$Cry;)Z" } : Jvm.MethodName)) ∈ lw_all := lw_g (lw_at lw_m7 84 rfl) rfl
theorem q1619 : (Jvm.Cond.code ({ cls := "LeaningMarket$Cry", name := "isLike", desc := "(LLeaningMarket$Cry;)Z" } : Jvm.MethodName) prog_6_method_2_code (2 : Nat) (Option.some Jvm.ClassFile.FieldType.boolean)) ∈ lw_all := lw_g (lw_at lw_m7 85 rfl) rfl
theorem q2581 : (Jvm.Cond.castable "LeaningMarket$Cry" "java/lang/Object") ∈ lw_tbl := lw_at lw_m11 87 rfl
theorem in_X14 : ∀ w ∈ wsX140, w ∈ lw_all := lw_in wsX140 [1172, 1174, 1176, 1178] (by decide +kernel) (by decide +kernel)

/-! LeaningMarket$LawReader -/
set_option maxRecDepth 100000
def RX15 : String := "LeaningMarket$LawReader"
def TX15 : u_T := fun k => match k with
  | 0 => ("LeaningMarket$Reader", "text", "[B", true)
  | 1 => ("LeaningMarket$Reader", "size", "I", true)
  | 2 => ("LeaningMarket$Reader", "next", "I", false)
  | 3 => ("LeaningMarket$Reader", "from", "I", false)
  | _ => ("LeaningMarket$Reader", "open", "I", false)
def tyX15 : Nat → FieldType := fun k => match k with
  | 0 => .array .byte
  | 1 => .int
  | 2 => .int
  | 3 => .int
  | _ => .int
abbrev wsX150 : List Cond := u_ws RX15 TX15 5
theorem nmX15 : ∀ a, a < 5 → ∀ b, b < 5 → a ≠ b → (TX15 a).2.1 ≠ (TX15 b).2.1 := by decide +kernel
theorem tyX15_ok : ∀ k, k < 5 → parseFieldDescriptor (TX15 k).2.2.1 = some (tyX15 k) := by decide +kernel
abbrev cX15_init : ByteArray := prog_9_method_1_code
def yX15_init : MethodName := ⟨RX15, "<init>", "([BI)V"⟩
abbrev cX15_reads : ByteArray := prog_9_method_2_code
def yX15_reads : MethodName := ⟨RX15, "reads", "()LLeaningMarket$Term;"⟩
abbrev cX15_sum : ByteArray := prog_9_method_3_code
def yX15_sum : MethodName := ⟨RX15, "sum", "()LLeaningMarket$Term;"⟩
abbrev cX15_product : ByteArray := prog_9_method_4_code
def yX15_product : MethodName := ⟨RX15, "product", "()LLeaningMarket$Term;"⟩
abbrev cX15_unit : ByteArray := prog_9_method_5_code
def yX15_unit : MethodName := ⟨RX15, "unit", "()LLeaningMarket$Term;"⟩
abbrev cX15_fact : ByteArray := prog_9_method_6_code
def yX15_fact : MethodName := ⟨RX15, "fact", "(Ljava/lang/String;I)LLeaningMarket$Term;"⟩
abbrev cX15_two : ByteArray := prog_9_method_7_code
def yX15_two : MethodName := ⟨RX15, "two", "(Ljava/lang/String;)LLeaningMarket$Term;"⟩
theorem q129 : (Jvm.Cond.initialized "LeaningMarket$LawReader") ∈ lw_all := lw_g (lw_at lw_m1 35 rfl) rfl
theorem q697 : (Jvm.Cond.selects "LeaningMarket$LawReader" ({ cls := "java/lang/Object", name := "getClass", desc := "()Ljava/lang/Class;" } : Jvm.MethodName) ({ cls := "java/lang/Object", name := "getClass", desc := "()Ljava/lang/Class;" } : Jvm.MethodName)) ∈ lw_all := lw_g (lw_at lw_m3 123 rfl) rfl
theorem q926 : (Jvm.Cond.fieldLink "LeaningMarket$LawReader" (23 : Nat) "LeaningMarket$LawReader" "size" "I") ∈ lw_all := lw_g (lw_at lw_m4 112 rfl) rfl
theorem q927 : (Jvm.Cond.sameField "LeaningMarket$LawReader" "LeaningMarket$Reader" "size" "I") ∈ lw_all := lw_g (lw_at lw_m4 113 rfl) rfl
theorem q935 : (Jvm.Cond.fieldLink "LeaningMarket$LawReader" (19 : Nat) "LeaningMarket$LawReader" "next" "I") ∈ lw_all := lw_g (lw_at lw_m4 121 rfl) rfl
theorem q936 : (Jvm.Cond.sameField "LeaningMarket$LawReader" "LeaningMarket$Reader" "next" "I") ∈ lw_all := lw_g (lw_at lw_m4 122 rfl) rfl
theorem q944 : (Jvm.Cond.fieldLink "LeaningMarket$LawReader" (60 : Nat) "LeaningMarket$LawReader" "open" "I") ∈ lw_all := lw_g (lw_at lw_m4 130 rfl) rfl
theorem q945 : (Jvm.Cond.sameField "LeaningMarket$LawReader" "LeaningMarket$Reader" "open" "I") ∈ lw_all := lw_g (lw_at lw_m4 131 rfl) rfl
theorem q1200 : (Jvm.Cond.instantiable "LeaningMarket$LawReader" (5 : Nat)) ∈ lw_all := lw_g (lw_at lw_m5 146 rfl) rfl
theorem q1202 : (Jvm.Cond.instanceMethod ({ cls := "LeaningMarket$LawReader", name := "<init>", desc := "([BI)V" } : Jvm.MethodName)) ∈ lw_all := lw_g (lw_at lw_m5 148 rfl) rfl
theorem q1203 : (Jvm.Cond.code ({ cls := "LeaningMarket$LawReader", name := "<init>", desc := "([BI)V" } : Jvm.MethodName) prog_9_method_1_code (3 : Nat) (Option.none : Option Jvm.ClassFile.FieldType)) ∈ lw_all := lw_g (lw_at lw_m5 149 rfl) rfl
theorem q1204 : (Jvm.Cond.methodLink "LeaningMarket$LawReader" (3 : Nat) ({ cls := "LeaningMarket$Reader", name := "<init>", desc := "([BI)V" } : Jvm.MethodName)) ∈ lw_all := lw_g (lw_at lw_m5 150 rfl) rfl
theorem q1205 : (Jvm.Cond.laysFinal "LeaningMarket$LawReader" "LeaningMarket$Reader" "text" "[B") ∈ lw_all := lw_g (lw_at lw_m5 151 rfl) rfl
theorem q1206 : (Jvm.Cond.laysFinal "LeaningMarket$LawReader" "LeaningMarket$Reader" "size" "I") ∈ lw_all := lw_g (lw_at lw_m5 152 rfl) rfl
theorem q1207 : (Jvm.Cond.lays "LeaningMarket$LawReader" "LeaningMarket$Reader" "next" "I") ∈ lw_all := lw_g (lw_at lw_m5 153 rfl) rfl
theorem q1208 : (Jvm.Cond.lays "LeaningMarket$LawReader" "LeaningMarket$Reader" "from" "I") ∈ lw_all := lw_g (lw_at lw_m5 154 rfl) rfl
theorem q1209 : (Jvm.Cond.lays "LeaningMarket$LawReader" "LeaningMarket$Reader" "open" "I") ∈ lw_all := lw_g (lw_at lw_m5 155 rfl) rfl
theorem q1210 : (Jvm.Cond.superclass "LeaningMarket$LawReader" "LeaningMarket$Reader") ∈ lw_all := lw_g (lw_at lw_m5 156 rfl) rfl
theorem q1212 : (Jvm.Cond.instanceMethod ({ cls := "LeaningMarket$LawReader", name := "reads", desc := "()LLeaningMarket$Term;" } : Jvm.MethodName)) ∈ lw_all := lw_g (lw_at lw_m5 158 rfl) rfl
theorem q1213 : (Jvm.Cond.selects "LeaningMarket$LawReader" ({ cls := "LeaningMarket$LawReader", name := "reads", desc := "()LLeaningMarket$Term;" } : Jvm.MethodName) ({ cls := "LeaningMarket$LawReader", name := "reads", desc := "()LLeaningMarket$Term;" } : Jvm.MethodName)) ∈ lw_all := lw_g (lw_at lw_m5 159 rfl) rfl
theorem q1214 : (Jvm.Cond.code ({ cls := "LeaningMarket$LawReader", name := "reads", desc := "()LLeaningMarket$Term;" } : Jvm.MethodName) prog_9_method_2_code (2 : Nat) (Option.some (Jvm.ClassFile.FieldType.object "LeaningMarket$Term"))) ∈ lw_all := lw_g (lw_at lw_m5 160 rfl) rfl
theorem q1215 : (Jvm.Cond.methodLink "LeaningMarket$LawReader" (9 : Nat) ({ cls := "LeaningMarket$LawReader", name := "sum", desc := "()LLeaningMarket$Term;" } : Jvm.MethodName)) ∈ lw_all := lw_g (lw_at lw_m5 161 rfl) rfl
theorem q1216 : (Jvm.Cond.privateMethod ({ cls := "LeaningMarket$LawReader", name := "sum", desc := "()LLeaningMarket$Term;" } : Jvm.MethodName)) ∈ lw_tbl := lw_at lw_m5 162 rfl
theorem q1217 : (Jvm.Cond.instanceMethod ({ cls := "LeaningMarket$LawReader", name := "sum", desc := "()LLeaningMarket$Term;" } : Jvm.MethodName)) ∈ lw_all := lw_g (lw_at lw_m5 163 rfl) rfl
theorem q1218 : (Jvm.Cond.code ({ cls := "LeaningMarket$LawReader", name := "sum", desc := "()LLeaningMarket$Term;" } : Jvm.MethodName) prog_9_method_3_code (4 : Nat) (Option.some (Jvm.ClassFile.FieldType.object "LeaningMarket$Term"))) ∈ lw_all := lw_g (lw_at lw_m5 164 rfl) rfl
theorem q1219 : (Jvm.Cond.methodLink "LeaningMarket$LawReader" (30 : Nat) ({ cls := "LeaningMarket$LawReader", name := "product", desc := "()LLeaningMarket$Term;" } : Jvm.MethodName)) ∈ lw_all := lw_g (lw_at lw_m5 165 rfl) rfl
theorem q1220 : (Jvm.Cond.privateMethod ({ cls := "LeaningMarket$LawReader", name := "product", desc := "()LLeaningMarket$Term;" } : Jvm.MethodName)) ∈ lw_tbl := lw_at lw_m5 166 rfl
theorem q1221 : (Jvm.Cond.instanceMethod ({ cls := "LeaningMarket$LawReader", name := "product", desc := "()LLeaningMarket$Term;" } : Jvm.MethodName)) ∈ lw_all := lw_g (lw_at lw_m5 167 rfl) rfl
theorem q1222 : (Jvm.Cond.code ({ cls := "LeaningMarket$LawReader", name := "product", desc := "()LLeaningMarket$Term;" } : Jvm.MethodName) prog_9_method_4_code (4 : Nat) (Option.some (Jvm.ClassFile.FieldType.object "LeaningMarket$Term"))) ∈ lw_all := lw_g (lw_at lw_m5 168 rfl) rfl
theorem q1223 : (Jvm.Cond.methodLink "LeaningMarket$LawReader" (41 : Nat) ({ cls := "LeaningMarket$LawReader", name := "unit", desc := "()LLeaningMarket$Term;" } : Jvm.MethodName)) ∈ lw_all := lw_g (lw_at lw_m5 169 rfl) rfl
theorem q1224 : (Jvm.Cond.privateMethod ({ cls := "LeaningMarket$LawReader", name := "unit", desc := "()LLeaningMarket$Term;" } : Jvm.MethodName)) ∈ lw_tbl := lw_at lw_m5 170 rfl
theorem q1225 : (Jvm.Cond.instanceMethod ({ cls := "LeaningMarket$LawReader", name := "unit", desc := "()LLeaningMarket$Term;" } : Jvm.MethodName)) ∈ lw_all := lw_g (lw_at lw_m5 171 rfl) rfl
theorem q1226 : (Jvm.Cond.code ({ cls := "LeaningMarket$LawReader", name := "unit", desc := "()LLeaningMarket$Term;" } : Jvm.MethodName) prog_9_method_5_code (5 : Nat) (Option.some (Jvm.ClassFile.FieldType.object "LeaningMarket$Term"))) ∈ lw_all := lw_g (lw_at lw_m5 172 rfl) rfl
theorem q1227 : (Jvm.Cond.methodLink "LeaningMarket$LawReader" (15 : Nat) ({ cls := "LeaningMarket$LawReader", name := "sign", desc := "()I" } : Jvm.MethodName)) ∈ lw_all := lw_g (lw_at lw_m5 173 rfl) rfl
theorem q1228 : (Jvm.Cond.sameMethod "LeaningMarket$LawReader" "LeaningMarket$Reader" "sign" "()I") ∈ lw_all := lw_g (lw_at lw_m5 174 rfl) rfl
theorem q1229 : (Jvm.Cond.selects "LeaningMarket$LawReader" ({ cls := "LeaningMarket$LawReader", name := "sign", desc := "()I" } : Jvm.MethodName) ({ cls := "LeaningMarket$Reader", name := "sign", desc := "()I" } : Jvm.MethodName)) ∈ lw_all := lw_g (lw_at lw_m5 175 rfl) rfl
theorem q1230 : (Jvm.Cond.methodLink "LeaningMarket$LawReader" (53 : Nat) ({ cls := "LeaningMarket$LawReader", name := "opens", desc := "(I)V" } : Jvm.MethodName)) ∈ lw_all := lw_g (lw_at lw_m5 176 rfl) rfl
theorem q1231 : (Jvm.Cond.sameMethod "LeaningMarket$LawReader" "LeaningMarket$Reader" "opens" "(I)V") ∈ lw_all := lw_g (lw_at lw_m5 177 rfl) rfl
theorem q1233 : (Jvm.Cond.selects "LeaningMarket$LawReader" ({ cls := "LeaningMarket$LawReader", name := "opens", desc := "(I)V" } : Jvm.MethodName) ({ cls := "LeaningMarket$Reader", name := "opens", desc := "(I)V" } : Jvm.MethodName)) ∈ lw_all := lw_g (lw_at lw_m5 179 rfl) rfl
theorem q1236 : (Jvm.Cond.methodLink "LeaningMarket$LawReader" (57 : Nat) ({ cls := "LeaningMarket$LawReader", name := "need", desc := "(I)V" } : Jvm.MethodName)) ∈ lw_all := lw_g (lw_at lw_m5 182 rfl) rfl
theorem q1237 : (Jvm.Cond.sameMethod "LeaningMarket$LawReader" "LeaningMarket$Reader" "need" "(I)V") ∈ lw_all := lw_g (lw_at lw_m5 183 rfl) rfl
theorem q1238 : (Jvm.Cond.selects "LeaningMarket$LawReader" ({ cls := "LeaningMarket$LawReader", name := "need", desc := "(I)V" } : Jvm.MethodName) ({ cls := "LeaningMarket$Reader", name := "need", desc := "(I)V" } : Jvm.MethodName)) ∈ lw_all := lw_g (lw_at lw_m5 184 rfl) rfl
theorem q1239 : (Jvm.Cond.classLink "LeaningMarket$LawReader" (63 : Nat) "LeaningMarket$Plain") ∈ lw_all := lw_g (lw_at lw_m5 185 rfl) rfl
theorem q1240 : (Jvm.Cond.methodLink "LeaningMarket$LawReader" (65 : Nat) ({ cls := "LeaningMarket$LawReader", name := "number", desc := "(II)I" } : Jvm.MethodName)) ∈ lw_all := lw_g (lw_at lw_m5 186 rfl) rfl
theorem q1241 : (Jvm.Cond.sameMethod "LeaningMarket$LawReader" "LeaningMarket$Reader" "number" "(II)I") ∈ lw_all := lw_g (lw_at lw_m5 187 rfl) rfl
theorem q1242 : (Jvm.Cond.selects "LeaningMarket$LawReader" ({ cls := "LeaningMarket$LawReader", name := "number", desc := "(II)I" } : Jvm.MethodName) ({ cls := "LeaningMarket$Reader", name := "number", desc := "(II)I" } : Jvm.MethodName)) ∈ lw_all := lw_g (lw_at lw_m5 188 rfl) rfl
theorem q1243 : (Jvm.Cond.methodLink "LeaningMarket$LawReader" (69 : Nat) ({ cls := "LeaningMarket$Plain", name := "<init>", desc := "(I)V" } : Jvm.MethodName)) ∈ lw_all := lw_g (lw_at lw_m5 189 rfl) rfl
theorem q1244 : (Jvm.Cond.methodLink "LeaningMarket$LawReader" (71 : Nat) ({ cls := "LeaningMarket$LawReader", name := "word", desc := "()Ljava/lang/String;" } : Jvm.MethodName)) ∈ lw_all := lw_g (lw_at lw_m5 190 rfl) rfl
theorem q1245 : (Jvm.Cond.sameMethod "LeaningMarket$LawReader" "LeaningMarket$Reader" "word" "()Ljava/lang/String;") ∈ lw_all := lw_g (lw_at lw_m5 191 rfl) rfl
theorem q1246 : (Jvm.Cond.selects "LeaningMarket$LawReader" ({ cls := "LeaningMarket$LawReader", name := "word", desc := "()Ljava/lang/String;" } : Jvm.MethodName) ({ cls := "LeaningMarket$Reader", name := "word", desc := "()Ljava/lang/String;" } : Jvm.MethodName)) ∈ lw_all := lw_g (lw_at lw_m5 192 rfl) rfl
theorem q1247 : (Jvm.Cond.methodLink "LeaningMarket$LawReader" (75 : Nat) ({ cls := "java/lang/String", name := "hashCode", desc := "()I" } : Jvm.MethodName)) ∈ lw_all := lw_g (lw_at lw_m5 193 rfl) rfl
theorem q1248 : (Jvm.Cond.stringRef "LeaningMarket$LawReader" (80 : Nat) "weight") ∈ lw_tbl := lw_at lw_m5 194 rfl
theorem q1249 : (Jvm.Cond.methodLink "LeaningMarket$LawReader" (82 : Nat) ({ cls := "java/lang/String", name := "equals", desc := "(Ljava/lang/Object;)Z" } : Jvm.MethodName)) ∈ lw_all := lw_g (lw_at lw_m5 195 rfl) rfl
theorem q1250 : (Jvm.Cond.stringRef "LeaningMarket$LawReader" (86 : Nat) "weighed") ∈ lw_tbl := lw_at lw_m5 196 rfl
theorem q1251 : (Jvm.Cond.stringRef "LeaningMarket$LawReader" (88 : Nat) "cried") ∈ lw_tbl := lw_at lw_m5 197 rfl
theorem q1252 : (Jvm.Cond.stringRef "LeaningMarket$LawReader" (90 : Nat) "thing") ∈ lw_tbl := lw_at lw_m5 198 rfl
theorem q1253 : (Jvm.Cond.stringRef "LeaningMarket$LawReader" (92 : Nat) "day") ∈ lw_tbl := lw_at lw_m5 199 rfl
theorem q1254 : (Jvm.Cond.stringRef "LeaningMarket$LawReader" (94 : Nat) "lean") ∈ lw_tbl := lw_at lw_m5 200 rfl
theorem q1255 : (Jvm.Cond.stringRef "LeaningMarket$LawReader" (96 : Nat) "play") ∈ lw_tbl := lw_at lw_m5 201 rfl
theorem q1256 : (Jvm.Cond.stringRef "LeaningMarket$LawReader" (98 : Nat) "least") ∈ lw_tbl := lw_at lw_m5 202 rfl
theorem q1257 : (Jvm.Cond.stringRef "LeaningMarket$LawReader" (100 : Nat) "most") ∈ lw_tbl := lw_at lw_m5 203 rfl
theorem q1258 : (Jvm.Cond.methodLink "LeaningMarket$LawReader" (102 : Nat) ({ cls := "LeaningMarket$LawReader", name := "fact", desc := "(Ljava/lang/String;I)LLeaningMarket$Term;" } : Jvm.MethodName)) ∈ lw_all := lw_g (lw_at lw_m5 204 rfl) rfl
theorem q1259 : (Jvm.Cond.privateMethod ({ cls := "LeaningMarket$LawReader", name := "fact", desc := "(Ljava/lang/String;I)LLeaningMarket$Term;" } : Jvm.MethodName)) ∈ lw_tbl := lw_at lw_m5 205 rfl
theorem q1260 : (Jvm.Cond.instanceMethod ({ cls := "LeaningMarket$LawReader", name := "fact", desc := "(Ljava/lang/String;I)LLeaningMarket$Term;" } : Jvm.MethodName)) ∈ lw_all := lw_g (lw_at lw_m5 206 rfl) rfl
theorem q1261 : (Jvm.Cond.code ({ cls := "LeaningMarket$LawReader", name := "fact", desc := "(Ljava/lang/String;I)LLeaningMarket$Term;" } : Jvm.MethodName) prog_9_method_6_code (3 : Nat) (Option.some (Jvm.ClassFile.FieldType.object "LeaningMarket$Term"))) ∈ lw_all := lw_g (lw_at lw_m5 207 rfl) rfl
theorem q1262 : (Jvm.Cond.methodLink "LeaningMarket$LawReader" (110 : Nat) ({ cls := "java/lang/String", name := "length", desc := "()I" } : Jvm.MethodName)) ∈ lw_all := lw_g (lw_at lw_m5 208 rfl) rfl
theorem q1263 : (Jvm.Cond.classLink "LeaningMarket$LawReader" (113 : Nat) "LeaningMarket$Fact") ∈ lw_all := lw_g (lw_at lw_m5 209 rfl) rfl
theorem q1264 : (Jvm.Cond.methodLink "LeaningMarket$LawReader" (115 : Nat) ({ cls := "LeaningMarket$Fact", name := "<init>", desc := "(I)V" } : Jvm.MethodName)) ∈ lw_all := lw_g (lw_at lw_m5 210 rfl) rfl
theorem q1265 : (Jvm.Cond.methodLink "LeaningMarket$LawReader" (106 : Nat) ({ cls := "LeaningMarket$LawReader", name := "two", desc := "(Ljava/lang/String;)LLeaningMarket$Term;" } : Jvm.MethodName)) ∈ lw_all := lw_g (lw_at lw_m5 211 rfl) rfl
theorem q1266 : (Jvm.Cond.privateMethod ({ cls := "LeaningMarket$LawReader", name := "two", desc := "(Ljava/lang/String;)LLeaningMarket$Term;" } : Jvm.MethodName)) ∈ lw_tbl := lw_at lw_m5 212 rfl
theorem q1267 : (Jvm.Cond.instanceMethod ({ cls := "LeaningMarket$LawReader", name := "two", desc := "(Ljava/lang/String;)LLeaningMarket$Term;" } : Jvm.MethodName)) ∈ lw_all := lw_g (lw_at lw_m5 213 rfl) rfl
theorem q1268 : (Jvm.Cond.code ({ cls := "LeaningMarket$LawReader", name := "two", desc := "(Ljava/lang/String;)LLeaningMarket$Term;" } : Jvm.MethodName) prog_9_method_7_code (4 : Nat) (Option.some (Jvm.ClassFile.FieldType.object "LeaningMarket$Term"))) ∈ lw_all := lw_g (lw_at lw_m5 214 rfl) rfl
theorem q1269 : (Jvm.Cond.classLink "LeaningMarket$LawReader" (116 : Nat) "LeaningMarket$Least") ∈ lw_all := lw_g (lw_at lw_m5 215 rfl) rfl
theorem q1271 : (Jvm.Cond.methodLink "LeaningMarket$LawReader" (118 : Nat) ({ cls := "LeaningMarket$Least", name := "<init>", desc := "(LLeaningMarket$Term;LLeaningMarket$Term;)V" } : Jvm.MethodName)) ∈ lw_all := lw_g (lw_at lw_m5 217 rfl) rfl
theorem q1278 : (Jvm.Cond.classLink "LeaningMarket$LawReader" (119 : Nat) "LeaningMarket$Most") ∈ lw_all := lw_g (lw_at lw_m5 224 rfl) rfl
theorem q1280 : (Jvm.Cond.methodLink "LeaningMarket$LawReader" (121 : Nat) ({ cls := "LeaningMarket$Most", name := "<init>", desc := "(LLeaningMarket$Term;LLeaningMarket$Term;)V" } : Jvm.MethodName)) ∈ lw_all := lw_g (lw_at lw_m5 226 rfl) rfl
theorem q1287 : (Jvm.Cond.methodLink "LeaningMarket$LawReader" (26 : Nat) ({ cls := "LeaningMarket$LawReader", name := "wrong", desc := "()LLeaningMarket$Wrong;" } : Jvm.MethodName)) ∈ lw_all := lw_g (lw_at lw_m5 233 rfl) rfl
theorem q1288 : (Jvm.Cond.sameMethod "LeaningMarket$LawReader" "LeaningMarket$Reader" "wrong" "()LLeaningMarket$Wrong;") ∈ lw_all := lw_g (lw_at lw_m5 234 rfl) rfl
theorem q1289 : (Jvm.Cond.selects "LeaningMarket$LawReader" ({ cls := "LeaningMarket$LawReader", name := "wrong", desc := "()LLeaningMarket$Wrong;" } : Jvm.MethodName) ({ cls := "LeaningMarket$Reader", name := "wrong", desc := "()LLeaningMarket$Wrong;" } : Jvm.MethodName)) ∈ lw_all := lw_g (lw_at lw_m5 235 rfl) rfl
theorem q1290 : (Jvm.Cond.classLink "LeaningMarket$LawReader" (44 : Nat) "LeaningMarket$Times") ∈ lw_all := lw_g (lw_at lw_m5 236 rfl) rfl
theorem q1292 : (Jvm.Cond.methodLink "LeaningMarket$LawReader" (46 : Nat) ({ cls := "LeaningMarket$Times", name := "<init>", desc := "(LLeaningMarket$Term;LLeaningMarket$Term;)V" } : Jvm.MethodName)) ∈ lw_all := lw_g (lw_at lw_m5 238 rfl) rfl
theorem q1299 : (Jvm.Cond.classLink "LeaningMarket$LawReader" (47 : Nat) "LeaningMarket$By") ∈ lw_all := lw_g (lw_at lw_m6 5 rfl) rfl
theorem q1300 : (Jvm.Cond.methodLink "LeaningMarket$LawReader" (49 : Nat) ({ cls := "LeaningMarket$By", name := "<init>", desc := "(LLeaningMarket$Term;LLeaningMarket$Term;)V" } : Jvm.MethodName)) ∈ lw_all := lw_g (lw_at lw_m6 6 rfl) rfl
theorem q1301 : (Jvm.Cond.classLink "LeaningMarket$LawReader" (50 : Nat) "LeaningMarket$Leaves") ∈ lw_all := lw_g (lw_at lw_m6 7 rfl) rfl
theorem q1303 : (Jvm.Cond.methodLink "LeaningMarket$LawReader" (52 : Nat) ({ cls := "LeaningMarket$Leaves", name := "<init>", desc := "(LLeaningMarket$Term;LLeaningMarket$Term;)V" } : Jvm.MethodName)) ∈ lw_all := lw_g (lw_at lw_m6 9 rfl) rfl
theorem q1310 : (Jvm.Cond.classLink "LeaningMarket$LawReader" (33 : Nat) "LeaningMarket$Plus") ∈ lw_all := lw_g (lw_at lw_m6 16 rfl) rfl
theorem q1312 : (Jvm.Cond.methodLink "LeaningMarket$LawReader" (35 : Nat) ({ cls := "LeaningMarket$Plus", name := "<init>", desc := "(LLeaningMarket$Term;LLeaningMarket$Term;)V" } : Jvm.MethodName)) ∈ lw_all := lw_g (lw_at lw_m6 18 rfl) rfl
theorem q1319 : (Jvm.Cond.classLink "LeaningMarket$LawReader" (38 : Nat) "LeaningMarket$Minus") ∈ lw_all := lw_g (lw_at lw_m6 25 rfl) rfl
theorem q1321 : (Jvm.Cond.methodLink "LeaningMarket$LawReader" (40 : Nat) ({ cls := "LeaningMarket$Minus", name := "<init>", desc := "(LLeaningMarket$Term;LLeaningMarket$Term;)V" } : Jvm.MethodName)) ∈ lw_all := lw_g (lw_at lw_m6 27 rfl) rfl
theorem q2550 : (Jvm.Cond.selects "LeaningMarket$LawReader" ({ cls := "LeaningMarket$Reader", name := "sign", desc := "()I" } : Jvm.MethodName) ({ cls := "LeaningMarket$Reader", name := "sign", desc := "()I" } : Jvm.MethodName)) ∈ lw_all := lw_g (lw_at lw_m11 56 rfl) rfl
theorem q2557 : (Jvm.Cond.selects "LeaningMarket$LawReader" ({ cls := "LeaningMarket$Reader", name := "wrong", desc := "()LLeaningMarket$Wrong;" } : Jvm.MethodName) ({ cls := "LeaningMarket$Reader", name := "wrong", desc := "()LLeaningMarket$Wrong;" } : Jvm.MethodName)) ∈ lw_all := lw_g (lw_at lw_m11 63 rfl) rfl
theorem q2582 : (Jvm.Cond.castable "LeaningMarket$LawReader" "java/lang/Object") ∈ lw_tbl := lw_at lw_m11 88 rfl
theorem in_X15 : ∀ w ∈ wsX150, w ∈ lw_all := lw_in wsX150 [1205, 1206, 1207, 1208, 1209] (by decide +kernel) (by decide +kernel)

/-! LeaningMarket$Least -/
set_option maxRecDepth 100000
def RX16 : String := "LeaningMarket$Least"
def TX16 : u_T := fun k => match k with
  | 0 => ("LeaningMarket$Two", "a", "LLeaningMarket$Term;", true)
  | _ => ("LeaningMarket$Two", "b", "LLeaningMarket$Term;", true)
def tyX16 : Nat → FieldType := fun k => match k with
  | 0 => .object "LeaningMarket$Term"
  | _ => .object "LeaningMarket$Term"
abbrev wsX160 : List Cond := u_ws RX16 TX16 2
theorem nmX16 : ∀ a, a < 2 → ∀ b, b < 2 → a ≠ b → (TX16 a).2.1 ≠ (TX16 b).2.1 := by decide +kernel
theorem tyX16_ok : ∀ k, k < 2 → parseFieldDescriptor (TX16 k).2.2.1 = some (tyX16 k) := by decide +kernel
abbrev cX16_init : ByteArray := prog_10_method_1_code
def yX16_init : MethodName := ⟨RX16, "<init>", "(LLeaningMarket$Term;LLeaningMarket$Term;)V"⟩
abbrev cX16_with : ByteArray := prog_10_method_2_code
def yX16_with : MethodName := ⟨RX16, "with", "(II)I"⟩
theorem q130 : (Jvm.Cond.initialized "LeaningMarket$Least") ∈ lw_all := lw_g (lw_at lw_m1 36 rfl) rfl
theorem q698 : (Jvm.Cond.selects "LeaningMarket$Least" ({ cls := "java/lang/Object", name := "getClass", desc := "()Ljava/lang/Class;" } : Jvm.MethodName) ({ cls := "java/lang/Object", name := "getClass", desc := "()Ljava/lang/Class;" } : Jvm.MethodName)) ∈ lw_all := lw_g (lw_at lw_m3 124 rfl) rfl
theorem q1270 : (Jvm.Cond.instantiable "LeaningMarket$Least" (2 : Nat)) ∈ lw_all := lw_g (lw_at lw_m5 216 rfl) rfl
theorem q1272 : (Jvm.Cond.instanceMethod ({ cls := "LeaningMarket$Least", name := "<init>", desc := "(LLeaningMarket$Term;LLeaningMarket$Term;)V" } : Jvm.MethodName)) ∈ lw_all := lw_g (lw_at lw_m5 218 rfl) rfl
theorem q1273 : (Jvm.Cond.code ({ cls := "LeaningMarket$Least", name := "<init>", desc := "(LLeaningMarket$Term;LLeaningMarket$Term;)V" } : Jvm.MethodName) prog_10_method_1_code (3 : Nat) (Option.none : Option Jvm.ClassFile.FieldType)) ∈ lw_all := lw_g (lw_at lw_m5 219 rfl) rfl
theorem q1274 : (Jvm.Cond.methodLink "LeaningMarket$Least" (1 : Nat) ({ cls := "LeaningMarket$Two", name := "<init>", desc := "(LLeaningMarket$Term;LLeaningMarket$Term;)V" } : Jvm.MethodName)) ∈ lw_all := lw_g (lw_at lw_m5 220 rfl) rfl
theorem q1275 : (Jvm.Cond.laysFinal "LeaningMarket$Least" "LeaningMarket$Two" "a" "LLeaningMarket$Term;") ∈ lw_all := lw_g (lw_at lw_m5 221 rfl) rfl
theorem q1276 : (Jvm.Cond.laysFinal "LeaningMarket$Least" "LeaningMarket$Two" "b" "LLeaningMarket$Term;") ∈ lw_all := lw_g (lw_at lw_m5 222 rfl) rfl
theorem q1277 : (Jvm.Cond.superclass "LeaningMarket$Least" "LeaningMarket$Two") ∈ lw_all := lw_g (lw_at lw_m5 223 rfl) rfl
theorem q1543 : (Jvm.Cond.selects "LeaningMarket$Least" ({ cls := "LeaningMarket$Two", name := "with", desc := "(II)I" } : Jvm.MethodName) ({ cls := "LeaningMarket$Least", name := "with", desc := "(II)I" } : Jvm.MethodName)) ∈ lw_all := lw_g (lw_at lw_m7 9 rfl) rfl
theorem q1544 : (Jvm.Cond.instanceMethod ({ cls := "LeaningMarket$Least", name := "with", desc := "(II)I" } : Jvm.MethodName)) ∈ lw_all := lw_g (lw_at lw_m7 10 rfl) rfl
theorem q1545 : (Jvm.Cond.code ({ cls := "LeaningMarket$Least", name := "with", desc := "(II)I" } : Jvm.MethodName) prog_10_method_2_code (3 : Nat) (Option.some Jvm.ClassFile.FieldType.int)) ∈ lw_all := lw_g (lw_at lw_m7 11 rfl) rfl
theorem q1546 : (Jvm.Cond.methodLink "LeaningMarket$Least" (7 : Nat) ({ cls := "java/lang/Math", name := "min", desc := "(II)I" } : Jvm.MethodName)) ∈ lw_all := lw_g (lw_at lw_m7 12 rfl) rfl
theorem q1564 : (Jvm.Cond.selects "LeaningMarket$Least" ({ cls := "LeaningMarket$Term", name := "of", desc := "([I)I" } : Jvm.MethodName) ({ cls := "LeaningMarket$Two", name := "of", desc := "([I)I" } : Jvm.MethodName)) ∈ lw_all := lw_g (lw_at lw_m7 30 rfl) rfl
theorem q2583 : (Jvm.Cond.castable "LeaningMarket$Least" "java/lang/Object") ∈ lw_tbl := lw_at lw_m11 89 rfl
theorem in_X16 : ∀ w ∈ wsX160, w ∈ lw_all := lw_in wsX160 [1275, 1276] (by decide +kernel) (by decide +kernel)

/-! LeaningMarket$Most -/
set_option maxRecDepth 100000
def RX17 : String := "LeaningMarket$Most"
def TX17 : u_T := fun k => match k with
  | 0 => ("LeaningMarket$Two", "a", "LLeaningMarket$Term;", true)
  | _ => ("LeaningMarket$Two", "b", "LLeaningMarket$Term;", true)
def tyX17 : Nat → FieldType := fun k => match k with
  | 0 => .object "LeaningMarket$Term"
  | _ => .object "LeaningMarket$Term"
abbrev wsX170 : List Cond := u_ws RX17 TX17 2
theorem nmX17 : ∀ a, a < 2 → ∀ b, b < 2 → a ≠ b → (TX17 a).2.1 ≠ (TX17 b).2.1 := by decide +kernel
theorem tyX17_ok : ∀ k, k < 2 → parseFieldDescriptor (TX17 k).2.2.1 = some (tyX17 k) := by decide +kernel
abbrev cX17_init : ByteArray := prog_15_method_1_code
def yX17_init : MethodName := ⟨RX17, "<init>", "(LLeaningMarket$Term;LLeaningMarket$Term;)V"⟩
abbrev cX17_with : ByteArray := prog_15_method_2_code
def yX17_with : MethodName := ⟨RX17, "with", "(II)I"⟩
theorem q131 : (Jvm.Cond.initialized "LeaningMarket$Most") ∈ lw_all := lw_g (lw_at lw_m1 37 rfl) rfl
theorem q703 : (Jvm.Cond.selects "LeaningMarket$Most" ({ cls := "java/lang/Object", name := "getClass", desc := "()Ljava/lang/Class;" } : Jvm.MethodName) ({ cls := "java/lang/Object", name := "getClass", desc := "()Ljava/lang/Class;" } : Jvm.MethodName)) ∈ lw_all := lw_g (lw_at lw_m3 129 rfl) rfl
theorem q1279 : (Jvm.Cond.instantiable "LeaningMarket$Most" (2 : Nat)) ∈ lw_all := lw_g (lw_at lw_m5 225 rfl) rfl
theorem q1281 : (Jvm.Cond.instanceMethod ({ cls := "LeaningMarket$Most", name := "<init>", desc := "(LLeaningMarket$Term;LLeaningMarket$Term;)V" } : Jvm.MethodName)) ∈ lw_all := lw_g (lw_at lw_m5 227 rfl) rfl
theorem q1282 : (Jvm.Cond.code ({ cls := "LeaningMarket$Most", name := "<init>", desc := "(LLeaningMarket$Term;LLeaningMarket$Term;)V" } : Jvm.MethodName) prog_15_method_1_code (3 : Nat) (Option.none : Option Jvm.ClassFile.FieldType)) ∈ lw_all := lw_g (lw_at lw_m5 228 rfl) rfl
theorem q1283 : (Jvm.Cond.methodLink "LeaningMarket$Most" (1 : Nat) ({ cls := "LeaningMarket$Two", name := "<init>", desc := "(LLeaningMarket$Term;LLeaningMarket$Term;)V" } : Jvm.MethodName)) ∈ lw_all := lw_g (lw_at lw_m5 229 rfl) rfl
theorem q1284 : (Jvm.Cond.laysFinal "LeaningMarket$Most" "LeaningMarket$Two" "a" "LLeaningMarket$Term;") ∈ lw_all := lw_g (lw_at lw_m5 230 rfl) rfl
theorem q1285 : (Jvm.Cond.laysFinal "LeaningMarket$Most" "LeaningMarket$Two" "b" "LLeaningMarket$Term;") ∈ lw_all := lw_g (lw_at lw_m5 231 rfl) rfl
theorem q1286 : (Jvm.Cond.superclass "LeaningMarket$Most" "LeaningMarket$Two") ∈ lw_all := lw_g (lw_at lw_m5 232 rfl) rfl
theorem q1553 : (Jvm.Cond.selects "LeaningMarket$Most" ({ cls := "LeaningMarket$Two", name := "with", desc := "(II)I" } : Jvm.MethodName) ({ cls := "LeaningMarket$Most", name := "with", desc := "(II)I" } : Jvm.MethodName)) ∈ lw_all := lw_g (lw_at lw_m7 19 rfl) rfl
theorem q1554 : (Jvm.Cond.instanceMethod ({ cls := "LeaningMarket$Most", name := "with", desc := "(II)I" } : Jvm.MethodName)) ∈ lw_all := lw_g (lw_at lw_m7 20 rfl) rfl
theorem q1555 : (Jvm.Cond.code ({ cls := "LeaningMarket$Most", name := "with", desc := "(II)I" } : Jvm.MethodName) prog_15_method_2_code (3 : Nat) (Option.some Jvm.ClassFile.FieldType.int)) ∈ lw_all := lw_g (lw_at lw_m7 21 rfl) rfl
theorem q1556 : (Jvm.Cond.methodLink "LeaningMarket$Most" (7 : Nat) ({ cls := "java/lang/Math", name := "max", desc := "(II)I" } : Jvm.MethodName)) ∈ lw_all := lw_g (lw_at lw_m7 22 rfl) rfl
theorem q1567 : (Jvm.Cond.selects "LeaningMarket$Most" ({ cls := "LeaningMarket$Term", name := "of", desc := "([I)I" } : Jvm.MethodName) ({ cls := "LeaningMarket$Two", name := "of", desc := "([I)I" } : Jvm.MethodName)) ∈ lw_all := lw_g (lw_at lw_m7 33 rfl) rfl
theorem q2584 : (Jvm.Cond.castable "LeaningMarket$Most" "java/lang/Object") ∈ lw_tbl := lw_at lw_m11 90 rfl
theorem in_X17 : ∀ w ∈ wsX170, w ∈ lw_all := lw_in wsX170 [1284, 1285] (by decide +kernel) (by decide +kernel)

/-! LeaningMarket$Times -/
set_option maxRecDepth 100000
def RX18 : String := "LeaningMarket$Times"
def TX18 : u_T := fun k => match k with
  | 0 => ("LeaningMarket$Two", "a", "LLeaningMarket$Term;", true)
  | _ => ("LeaningMarket$Two", "b", "LLeaningMarket$Term;", true)
def tyX18 : Nat → FieldType := fun k => match k with
  | 0 => .object "LeaningMarket$Term"
  | _ => .object "LeaningMarket$Term"
abbrev wsX180 : List Cond := u_ws RX18 TX18 2
theorem nmX18 : ∀ a, a < 2 → ∀ b, b < 2 → a ≠ b → (TX18 a).2.1 ≠ (TX18 b).2.1 := by decide +kernel
theorem tyX18_ok : ∀ k, k < 2 → parseFieldDescriptor (TX18 k).2.2.1 = some (tyX18 k) := by decide +kernel
abbrev cX18_init : ByteArray := prog_23_method_1_code
def yX18_init : MethodName := ⟨RX18, "<init>", "(LLeaningMarket$Term;LLeaningMarket$Term;)V"⟩
abbrev cX18_with : ByteArray := prog_23_method_2_code
def yX18_with : MethodName := ⟨RX18, "with", "(II)I"⟩
theorem q132 : (Jvm.Cond.initialized "LeaningMarket$Times") ∈ lw_all := lw_g (lw_at lw_m1 38 rfl) rfl
theorem q707 : (Jvm.Cond.selects "LeaningMarket$Times" ({ cls := "java/lang/Object", name := "getClass", desc := "()Ljava/lang/Class;" } : Jvm.MethodName) ({ cls := "java/lang/Object", name := "getClass", desc := "()Ljava/lang/Class;" } : Jvm.MethodName)) ∈ lw_all := lw_g (lw_at lw_m3 133 rfl) rfl
theorem q1291 : (Jvm.Cond.instantiable "LeaningMarket$Times" (2 : Nat)) ∈ lw_all := lw_g (lw_at lw_m5 237 rfl) rfl
theorem q1293 : (Jvm.Cond.instanceMethod ({ cls := "LeaningMarket$Times", name := "<init>", desc := "(LLeaningMarket$Term;LLeaningMarket$Term;)V" } : Jvm.MethodName)) ∈ lw_all := lw_g (lw_at lw_m5 239 rfl) rfl
theorem q1294 : (Jvm.Cond.code ({ cls := "LeaningMarket$Times", name := "<init>", desc := "(LLeaningMarket$Term;LLeaningMarket$Term;)V" } : Jvm.MethodName) prog_23_method_1_code (3 : Nat) (Option.none : Option Jvm.ClassFile.FieldType)) ∈ lw_all := lw_g (lw_at lw_m6 0 rfl) rfl
theorem q1295 : (Jvm.Cond.methodLink "LeaningMarket$Times" (1 : Nat) ({ cls := "LeaningMarket$Two", name := "<init>", desc := "(LLeaningMarket$Term;LLeaningMarket$Term;)V" } : Jvm.MethodName)) ∈ lw_all := lw_g (lw_at lw_m6 1 rfl) rfl
theorem q1296 : (Jvm.Cond.laysFinal "LeaningMarket$Times" "LeaningMarket$Two" "a" "LLeaningMarket$Term;") ∈ lw_all := lw_g (lw_at lw_m6 2 rfl) rfl
theorem q1297 : (Jvm.Cond.laysFinal "LeaningMarket$Times" "LeaningMarket$Two" "b" "LLeaningMarket$Term;") ∈ lw_all := lw_g (lw_at lw_m6 3 rfl) rfl
theorem q1298 : (Jvm.Cond.superclass "LeaningMarket$Times" "LeaningMarket$Two") ∈ lw_all := lw_g (lw_at lw_m6 4 rfl) rfl
theorem q1560 : (Jvm.Cond.selects "LeaningMarket$Times" ({ cls := "LeaningMarket$Two", name := "with", desc := "(II)I" } : Jvm.MethodName) ({ cls := "LeaningMarket$Times", name := "with", desc := "(II)I" } : Jvm.MethodName)) ∈ lw_all := lw_g (lw_at lw_m7 26 rfl) rfl
theorem q1561 : (Jvm.Cond.instanceMethod ({ cls := "LeaningMarket$Times", name := "with", desc := "(II)I" } : Jvm.MethodName)) ∈ lw_all := lw_g (lw_at lw_m7 27 rfl) rfl
theorem q1562 : (Jvm.Cond.code ({ cls := "LeaningMarket$Times", name := "with", desc := "(II)I" } : Jvm.MethodName) prog_23_method_2_code (3 : Nat) (Option.some Jvm.ClassFile.FieldType.int)) ∈ lw_all := lw_g (lw_at lw_m7 28 rfl) rfl
theorem q1570 : (Jvm.Cond.selects "LeaningMarket$Times" ({ cls := "LeaningMarket$Term", name := "of", desc := "([I)I" } : Jvm.MethodName) ({ cls := "LeaningMarket$Two", name := "of", desc := "([I)I" } : Jvm.MethodName)) ∈ lw_all := lw_g (lw_at lw_m7 36 rfl) rfl
theorem q2585 : (Jvm.Cond.castable "LeaningMarket$Times" "java/lang/Object") ∈ lw_tbl := lw_at lw_m11 91 rfl
theorem in_X18 : ∀ w ∈ wsX180, w ∈ lw_all := lw_in wsX180 [1296, 1297] (by decide +kernel) (by decide +kernel)

/-! LeaningMarket$Leaves -/
set_option maxRecDepth 100000
def RX19 : String := "LeaningMarket$Leaves"
def TX19 : u_T := fun k => match k with
  | 0 => ("LeaningMarket$Two", "a", "LLeaningMarket$Term;", true)
  | _ => ("LeaningMarket$Two", "b", "LLeaningMarket$Term;", true)
def tyX19 : Nat → FieldType := fun k => match k with
  | 0 => .object "LeaningMarket$Term"
  | _ => .object "LeaningMarket$Term"
abbrev wsX190 : List Cond := u_ws RX19 TX19 2
theorem nmX19 : ∀ a, a < 2 → ∀ b, b < 2 → a ≠ b → (TX19 a).2.1 ≠ (TX19 b).2.1 := by decide +kernel
theorem tyX19_ok : ∀ k, k < 2 → parseFieldDescriptor (TX19 k).2.2.1 = some (tyX19 k) := by decide +kernel
abbrev cX19_init : ByteArray := prog_11_method_1_code
def yX19_init : MethodName := ⟨RX19, "<init>", "(LLeaningMarket$Term;LLeaningMarket$Term;)V"⟩
abbrev cX19_with : ByteArray := prog_11_method_2_code
def yX19_with : MethodName := ⟨RX19, "with", "(II)I"⟩
theorem q133 : (Jvm.Cond.initialized "LeaningMarket$Leaves") ∈ lw_all := lw_g (lw_at lw_m1 39 rfl) rfl
theorem q699 : (Jvm.Cond.selects "LeaningMarket$Leaves" ({ cls := "java/lang/Object", name := "getClass", desc := "()Ljava/lang/Class;" } : Jvm.MethodName) ({ cls := "java/lang/Object", name := "getClass", desc := "()Ljava/lang/Class;" } : Jvm.MethodName)) ∈ lw_all := lw_g (lw_at lw_m3 125 rfl) rfl
theorem q1302 : (Jvm.Cond.instantiable "LeaningMarket$Leaves" (2 : Nat)) ∈ lw_all := lw_g (lw_at lw_m6 8 rfl) rfl
theorem q1304 : (Jvm.Cond.instanceMethod ({ cls := "LeaningMarket$Leaves", name := "<init>", desc := "(LLeaningMarket$Term;LLeaningMarket$Term;)V" } : Jvm.MethodName)) ∈ lw_all := lw_g (lw_at lw_m6 10 rfl) rfl
theorem q1305 : (Jvm.Cond.code ({ cls := "LeaningMarket$Leaves", name := "<init>", desc := "(LLeaningMarket$Term;LLeaningMarket$Term;)V" } : Jvm.MethodName) prog_11_method_1_code (3 : Nat) (Option.none : Option Jvm.ClassFile.FieldType)) ∈ lw_all := lw_g (lw_at lw_m6 11 rfl) rfl
theorem q1306 : (Jvm.Cond.methodLink "LeaningMarket$Leaves" (1 : Nat) ({ cls := "LeaningMarket$Two", name := "<init>", desc := "(LLeaningMarket$Term;LLeaningMarket$Term;)V" } : Jvm.MethodName)) ∈ lw_all := lw_g (lw_at lw_m6 12 rfl) rfl
theorem q1307 : (Jvm.Cond.laysFinal "LeaningMarket$Leaves" "LeaningMarket$Two" "a" "LLeaningMarket$Term;") ∈ lw_all := lw_g (lw_at lw_m6 13 rfl) rfl
theorem q1308 : (Jvm.Cond.laysFinal "LeaningMarket$Leaves" "LeaningMarket$Two" "b" "LLeaningMarket$Term;") ∈ lw_all := lw_g (lw_at lw_m6 14 rfl) rfl
theorem q1309 : (Jvm.Cond.superclass "LeaningMarket$Leaves" "LeaningMarket$Two") ∈ lw_all := lw_g (lw_at lw_m6 15 rfl) rfl
theorem q1547 : (Jvm.Cond.selects "LeaningMarket$Leaves" ({ cls := "LeaningMarket$Two", name := "with", desc := "(II)I" } : Jvm.MethodName) ({ cls := "LeaningMarket$Leaves", name := "with", desc := "(II)I" } : Jvm.MethodName)) ∈ lw_all := lw_g (lw_at lw_m7 13 rfl) rfl
theorem q1548 : (Jvm.Cond.instanceMethod ({ cls := "LeaningMarket$Leaves", name := "with", desc := "(II)I" } : Jvm.MethodName)) ∈ lw_all := lw_g (lw_at lw_m7 14 rfl) rfl
theorem q1549 : (Jvm.Cond.code ({ cls := "LeaningMarket$Leaves", name := "with", desc := "(II)I" } : Jvm.MethodName) prog_11_method_2_code (3 : Nat) (Option.some Jvm.ClassFile.FieldType.int)) ∈ lw_all := lw_g (lw_at lw_m7 15 rfl) rfl
theorem q1565 : (Jvm.Cond.selects "LeaningMarket$Leaves" ({ cls := "LeaningMarket$Term", name := "of", desc := "([I)I" } : Jvm.MethodName) ({ cls := "LeaningMarket$Two", name := "of", desc := "([I)I" } : Jvm.MethodName)) ∈ lw_all := lw_g (lw_at lw_m7 31 rfl) rfl
theorem q2586 : (Jvm.Cond.castable "LeaningMarket$Leaves" "java/lang/Object") ∈ lw_tbl := lw_at lw_m11 92 rfl
theorem in_X19 : ∀ w ∈ wsX190, w ∈ lw_all := lw_in wsX190 [1307, 1308] (by decide +kernel) (by decide +kernel)

/-! LeaningMarket$Plus -/
set_option maxRecDepth 100000
def RX20 : String := "LeaningMarket$Plus"
def TX20 : u_T := fun k => match k with
  | 0 => ("LeaningMarket$Two", "a", "LLeaningMarket$Term;", true)
  | _ => ("LeaningMarket$Two", "b", "LLeaningMarket$Term;", true)
def tyX20 : Nat → FieldType := fun k => match k with
  | 0 => .object "LeaningMarket$Term"
  | _ => .object "LeaningMarket$Term"
abbrev wsX200 : List Cond := u_ws RX20 TX20 2
theorem nmX20 : ∀ a, a < 2 → ∀ b, b < 2 → a ≠ b → (TX20 a).2.1 ≠ (TX20 b).2.1 := by decide +kernel
theorem tyX20_ok : ∀ k, k < 2 → parseFieldDescriptor (TX20 k).2.2.1 = some (tyX20 k) := by decide +kernel
abbrev cX20_init : ByteArray := prog_19_method_1_code
def yX20_init : MethodName := ⟨RX20, "<init>", "(LLeaningMarket$Term;LLeaningMarket$Term;)V"⟩
abbrev cX20_with : ByteArray := prog_19_method_2_code
def yX20_with : MethodName := ⟨RX20, "with", "(II)I"⟩
theorem q134 : (Jvm.Cond.initialized "LeaningMarket$Plus") ∈ lw_all := lw_g (lw_at lw_m1 40 rfl) rfl
theorem q706 : (Jvm.Cond.selects "LeaningMarket$Plus" ({ cls := "java/lang/Object", name := "getClass", desc := "()Ljava/lang/Class;" } : Jvm.MethodName) ({ cls := "java/lang/Object", name := "getClass", desc := "()Ljava/lang/Class;" } : Jvm.MethodName)) ∈ lw_all := lw_g (lw_at lw_m3 132 rfl) rfl
theorem q1311 : (Jvm.Cond.instantiable "LeaningMarket$Plus" (2 : Nat)) ∈ lw_all := lw_g (lw_at lw_m6 17 rfl) rfl
theorem q1313 : (Jvm.Cond.instanceMethod ({ cls := "LeaningMarket$Plus", name := "<init>", desc := "(LLeaningMarket$Term;LLeaningMarket$Term;)V" } : Jvm.MethodName)) ∈ lw_all := lw_g (lw_at lw_m6 19 rfl) rfl
theorem q1314 : (Jvm.Cond.code ({ cls := "LeaningMarket$Plus", name := "<init>", desc := "(LLeaningMarket$Term;LLeaningMarket$Term;)V" } : Jvm.MethodName) prog_19_method_1_code (3 : Nat) (Option.none : Option Jvm.ClassFile.FieldType)) ∈ lw_all := lw_g (lw_at lw_m6 20 rfl) rfl
theorem q1315 : (Jvm.Cond.methodLink "LeaningMarket$Plus" (1 : Nat) ({ cls := "LeaningMarket$Two", name := "<init>", desc := "(LLeaningMarket$Term;LLeaningMarket$Term;)V" } : Jvm.MethodName)) ∈ lw_all := lw_g (lw_at lw_m6 21 rfl) rfl
theorem q1316 : (Jvm.Cond.laysFinal "LeaningMarket$Plus" "LeaningMarket$Two" "a" "LLeaningMarket$Term;") ∈ lw_all := lw_g (lw_at lw_m6 22 rfl) rfl
theorem q1317 : (Jvm.Cond.laysFinal "LeaningMarket$Plus" "LeaningMarket$Two" "b" "LLeaningMarket$Term;") ∈ lw_all := lw_g (lw_at lw_m6 23 rfl) rfl
theorem q1318 : (Jvm.Cond.superclass "LeaningMarket$Plus" "LeaningMarket$Two") ∈ lw_all := lw_g (lw_at lw_m6 24 rfl) rfl
theorem q1557 : (Jvm.Cond.selects "LeaningMarket$Plus" ({ cls := "LeaningMarket$Two", name := "with", desc := "(II)I" } : Jvm.MethodName) ({ cls := "LeaningMarket$Plus", name := "with", desc := "(II)I" } : Jvm.MethodName)) ∈ lw_all := lw_g (lw_at lw_m7 23 rfl) rfl
theorem q1558 : (Jvm.Cond.instanceMethod ({ cls := "LeaningMarket$Plus", name := "with", desc := "(II)I" } : Jvm.MethodName)) ∈ lw_all := lw_g (lw_at lw_m7 24 rfl) rfl
theorem q1559 : (Jvm.Cond.code ({ cls := "LeaningMarket$Plus", name := "with", desc := "(II)I" } : Jvm.MethodName) prog_19_method_2_code (3 : Nat) (Option.some Jvm.ClassFile.FieldType.int)) ∈ lw_all := lw_g (lw_at lw_m7 25 rfl) rfl
theorem q1569 : (Jvm.Cond.selects "LeaningMarket$Plus" ({ cls := "LeaningMarket$Term", name := "of", desc := "([I)I" } : Jvm.MethodName) ({ cls := "LeaningMarket$Two", name := "of", desc := "([I)I" } : Jvm.MethodName)) ∈ lw_all := lw_g (lw_at lw_m7 35 rfl) rfl
theorem q2587 : (Jvm.Cond.castable "LeaningMarket$Plus" "java/lang/Object") ∈ lw_tbl := lw_at lw_m11 93 rfl
theorem in_X20 : ∀ w ∈ wsX200, w ∈ lw_all := lw_in wsX200 [1316, 1317] (by decide +kernel) (by decide +kernel)

/-! LeaningMarket$Minus -/
set_option maxRecDepth 100000
def RX21 : String := "LeaningMarket$Minus"
def TX21 : u_T := fun k => match k with
  | 0 => ("LeaningMarket$Two", "a", "LLeaningMarket$Term;", true)
  | _ => ("LeaningMarket$Two", "b", "LLeaningMarket$Term;", true)
def tyX21 : Nat → FieldType := fun k => match k with
  | 0 => .object "LeaningMarket$Term"
  | _ => .object "LeaningMarket$Term"
abbrev wsX210 : List Cond := u_ws RX21 TX21 2
theorem nmX21 : ∀ a, a < 2 → ∀ b, b < 2 → a ≠ b → (TX21 a).2.1 ≠ (TX21 b).2.1 := by decide +kernel
theorem tyX21_ok : ∀ k, k < 2 → parseFieldDescriptor (TX21 k).2.2.1 = some (tyX21 k) := by decide +kernel
abbrev cX21_init : ByteArray := prog_14_method_1_code
def yX21_init : MethodName := ⟨RX21, "<init>", "(LLeaningMarket$Term;LLeaningMarket$Term;)V"⟩
abbrev cX21_with : ByteArray := prog_14_method_2_code
def yX21_with : MethodName := ⟨RX21, "with", "(II)I"⟩
theorem q135 : (Jvm.Cond.initialized "LeaningMarket$Minus") ∈ lw_all := lw_g (lw_at lw_m1 41 rfl) rfl
theorem q702 : (Jvm.Cond.selects "LeaningMarket$Minus" ({ cls := "java/lang/Object", name := "getClass", desc := "()Ljava/lang/Class;" } : Jvm.MethodName) ({ cls := "java/lang/Object", name := "getClass", desc := "()Ljava/lang/Class;" } : Jvm.MethodName)) ∈ lw_all := lw_g (lw_at lw_m3 128 rfl) rfl
theorem q1320 : (Jvm.Cond.instantiable "LeaningMarket$Minus" (2 : Nat)) ∈ lw_all := lw_g (lw_at lw_m6 26 rfl) rfl
theorem q1322 : (Jvm.Cond.instanceMethod ({ cls := "LeaningMarket$Minus", name := "<init>", desc := "(LLeaningMarket$Term;LLeaningMarket$Term;)V" } : Jvm.MethodName)) ∈ lw_all := lw_g (lw_at lw_m6 28 rfl) rfl
theorem q1323 : (Jvm.Cond.code ({ cls := "LeaningMarket$Minus", name := "<init>", desc := "(LLeaningMarket$Term;LLeaningMarket$Term;)V" } : Jvm.MethodName) prog_14_method_1_code (3 : Nat) (Option.none : Option Jvm.ClassFile.FieldType)) ∈ lw_all := lw_g (lw_at lw_m6 29 rfl) rfl
theorem q1324 : (Jvm.Cond.methodLink "LeaningMarket$Minus" (1 : Nat) ({ cls := "LeaningMarket$Two", name := "<init>", desc := "(LLeaningMarket$Term;LLeaningMarket$Term;)V" } : Jvm.MethodName)) ∈ lw_all := lw_g (lw_at lw_m6 30 rfl) rfl
theorem q1325 : (Jvm.Cond.laysFinal "LeaningMarket$Minus" "LeaningMarket$Two" "a" "LLeaningMarket$Term;") ∈ lw_all := lw_g (lw_at lw_m6 31 rfl) rfl
theorem q1326 : (Jvm.Cond.laysFinal "LeaningMarket$Minus" "LeaningMarket$Two" "b" "LLeaningMarket$Term;") ∈ lw_all := lw_g (lw_at lw_m6 32 rfl) rfl
theorem q1327 : (Jvm.Cond.superclass "LeaningMarket$Minus" "LeaningMarket$Two") ∈ lw_all := lw_g (lw_at lw_m6 33 rfl) rfl
theorem q1550 : (Jvm.Cond.selects "LeaningMarket$Minus" ({ cls := "LeaningMarket$Two", name := "with", desc := "(II)I" } : Jvm.MethodName) ({ cls := "LeaningMarket$Minus", name := "with", desc := "(II)I" } : Jvm.MethodName)) ∈ lw_all := lw_g (lw_at lw_m7 16 rfl) rfl
theorem q1551 : (Jvm.Cond.instanceMethod ({ cls := "LeaningMarket$Minus", name := "with", desc := "(II)I" } : Jvm.MethodName)) ∈ lw_all := lw_g (lw_at lw_m7 17 rfl) rfl
theorem q1552 : (Jvm.Cond.code ({ cls := "LeaningMarket$Minus", name := "with", desc := "(II)I" } : Jvm.MethodName) prog_14_method_2_code (3 : Nat) (Option.some Jvm.ClassFile.FieldType.int)) ∈ lw_all := lw_g (lw_at lw_m7 18 rfl) rfl
theorem q1566 : (Jvm.Cond.selects "LeaningMarket$Minus" ({ cls := "LeaningMarket$Term", name := "of", desc := "([I)I" } : Jvm.MethodName) ({ cls := "LeaningMarket$Two", name := "of", desc := "([I)I" } : Jvm.MethodName)) ∈ lw_all := lw_g (lw_at lw_m7 32 rfl) rfl
theorem q2588 : (Jvm.Cond.castable "LeaningMarket$Minus" "java/lang/Object") ∈ lw_tbl := lw_at lw_m11 94 rfl
theorem in_X21 : ∀ w ∈ wsX210, w ∈ lw_all := lw_in wsX210 [1325, 1326] (by decide +kernel) (by decide +kernel)

/-! LeaningMarket$WorkReader -/
set_option maxRecDepth 100000
def RX22 : String := "LeaningMarket$WorkReader"
def TX22 : u_T := fun k => match k with
  | 0 => ("LeaningMarket$Reader", "text", "[B", true)
  | 1 => ("LeaningMarket$Reader", "size", "I", true)
  | 2 => ("LeaningMarket$Reader", "next", "I", false)
  | 3 => ("LeaningMarket$Reader", "from", "I", false)
  | 4 => ("LeaningMarket$Reader", "open", "I", false)
  | _ => ("LeaningMarket$WorkReader", "things", "I", true)
def tyX22 : Nat → FieldType := fun k => match k with
  | 0 => .array .byte
  | 1 => .int
  | 2 => .int
  | 3 => .int
  | 4 => .int
  | _ => .int
abbrev wsX220 : List Cond := u_ws RX22 TX22 6
theorem nmX22 : ∀ a, a < 6 → ∀ b, b < 6 → a ≠ b → (TX22 a).2.1 ≠ (TX22 b).2.1 := by decide +kernel
theorem tyX22_ok : ∀ k, k < 6 → parseFieldDescriptor (TX22 k).2.2.1 = some (tyX22 k) := by decide +kernel
abbrev cX22_init : ByteArray := prog_29_method_1_code
def yX22_init : MethodName := ⟨RX22, "<init>", "([BII)V"⟩
abbrev cX22_reads : ByteArray := prog_29_method_2_code
def yX22_reads : MethodName := ⟨RX22, "reads", "()Ljava/util/ArrayList;"⟩
abbrev cX22_step : ByteArray := prog_29_method_3_code
def yX22_step : MethodName := ⟨RX22, "step", "()LLeaningMarket$Step;"⟩
abbrev cX22_act : ByteArray := prog_29_method_4_code
def yX22_act : MethodName := ⟨RX22, "act", "(Ljava/lang/String;)LLeaningMarket$Step;"⟩
abbrev cX22_again : ByteArray := prog_29_method_5_code
def yX22_again : MethodName := ⟨RX22, "again", "()LLeaningMarket$Step;"⟩
theorem q136 : (Jvm.Cond.initialized "LeaningMarket$WorkReader") ∈ lw_all := lw_g (lw_at lw_m1 42 rfl) rfl
theorem q712 : (Jvm.Cond.selects "LeaningMarket$WorkReader" ({ cls := "java/lang/Object", name := "getClass", desc := "()Ljava/lang/Class;" } : Jvm.MethodName) ({ cls := "java/lang/Object", name := "getClass", desc := "()Ljava/lang/Class;" } : Jvm.MethodName)) ∈ lw_all := lw_g (lw_at lw_m3 138 rfl) rfl
theorem q928 : (Jvm.Cond.fieldLink "LeaningMarket$WorkReader" (27 : Nat) "LeaningMarket$WorkReader" "size" "I") ∈ lw_all := lw_g (lw_at lw_m4 114 rfl) rfl
theorem q929 : (Jvm.Cond.sameField "LeaningMarket$WorkReader" "LeaningMarket$Reader" "size" "I") ∈ lw_all := lw_g (lw_at lw_m4 115 rfl) rfl
theorem q937 : (Jvm.Cond.fieldLink "LeaningMarket$WorkReader" (24 : Nat) "LeaningMarket$WorkReader" "next" "I") ∈ lw_all := lw_g (lw_at lw_m4 123 rfl) rfl
theorem q938 : (Jvm.Cond.sameField "LeaningMarket$WorkReader" "LeaningMarket$Reader" "next" "I") ∈ lw_all := lw_g (lw_at lw_m4 124 rfl) rfl
theorem q946 : (Jvm.Cond.fieldLink "LeaningMarket$WorkReader" (117 : Nat) "LeaningMarket$WorkReader" "open" "I") ∈ lw_all := lw_g (lw_at lw_m4 132 rfl) rfl
theorem q947 : (Jvm.Cond.sameField "LeaningMarket$WorkReader" "LeaningMarket$Reader" "open" "I") ∈ lw_all := lw_g (lw_at lw_m4 133 rfl) rfl
theorem q1140 : (Jvm.Cond.selects "LeaningMarket$WorkReader" ({ cls := "LeaningMarket$PanReader", name := "number", desc := "(II)I" } : Jvm.MethodName) ({ cls := "LeaningMarket$Reader", name := "number", desc := "(II)I" } : Jvm.MethodName)) ∈ lw_all := lw_g (lw_at lw_m5 86 rfl) rfl
theorem q1146 : (Jvm.Cond.selects "LeaningMarket$WorkReader" ({ cls := "LeaningMarket$PanReader", name := "other", desc := "(II)I" } : Jvm.MethodName) ({ cls := "LeaningMarket$PanReader", name := "other", desc := "(II)I" } : Jvm.MethodName)) ∈ lw_all := lw_g (lw_at lw_m5 92 rfl) rfl
theorem q1336 : (Jvm.Cond.instantiable "LeaningMarket$WorkReader" (6 : Nat)) ∈ lw_all := lw_g (lw_at lw_m6 42 rfl) rfl
theorem q1338 : (Jvm.Cond.instanceMethod ({ cls := "LeaningMarket$WorkReader", name := "<init>", desc := "([BII)V" } : Jvm.MethodName)) ∈ lw_all := lw_g (lw_at lw_m6 44 rfl) rfl
theorem q1339 : (Jvm.Cond.code ({ cls := "LeaningMarket$WorkReader", name := "<init>", desc := "([BII)V" } : Jvm.MethodName) prog_29_method_1_code (4 : Nat) (Option.none : Option Jvm.ClassFile.FieldType)) ∈ lw_all := lw_g (lw_at lw_m6 45 rfl) rfl
theorem q1340 : (Jvm.Cond.methodLink "LeaningMarket$WorkReader" (3 : Nat) ({ cls := "LeaningMarket$PanReader", name := "<init>", desc := "([BI)V" } : Jvm.MethodName)) ∈ lw_all := lw_g (lw_at lw_m6 46 rfl) rfl
theorem q1341 : (Jvm.Cond.fieldLink "LeaningMarket$WorkReader" (9 : Nat) "LeaningMarket$WorkReader" "things" "I") ∈ lw_all := lw_g (lw_at lw_m6 47 rfl) rfl
theorem q1342 : (Jvm.Cond.laysFinal "LeaningMarket$WorkReader" "LeaningMarket$WorkReader" "things" "I") ∈ lw_all := lw_g (lw_at lw_m6 48 rfl) rfl
theorem q1343 : (Jvm.Cond.soleField "LeaningMarket$WorkReader" "things") ∈ lw_all := lw_g (lw_at lw_m6 49 rfl) rfl
theorem q1344 : (Jvm.Cond.laysFinal "LeaningMarket$WorkReader" "LeaningMarket$Reader" "text" "[B") ∈ lw_all := lw_g (lw_at lw_m6 50 rfl) rfl
theorem q1345 : (Jvm.Cond.laysFinal "LeaningMarket$WorkReader" "LeaningMarket$Reader" "size" "I") ∈ lw_all := lw_g (lw_at lw_m6 51 rfl) rfl
theorem q1346 : (Jvm.Cond.lays "LeaningMarket$WorkReader" "LeaningMarket$Reader" "next" "I") ∈ lw_all := lw_g (lw_at lw_m6 52 rfl) rfl
theorem q1347 : (Jvm.Cond.lays "LeaningMarket$WorkReader" "LeaningMarket$Reader" "from" "I") ∈ lw_all := lw_g (lw_at lw_m6 53 rfl) rfl
theorem q1348 : (Jvm.Cond.lays "LeaningMarket$WorkReader" "LeaningMarket$Reader" "open" "I") ∈ lw_all := lw_g (lw_at lw_m6 54 rfl) rfl
theorem q1349 : (Jvm.Cond.superclass "LeaningMarket$WorkReader" "LeaningMarket$PanReader") ∈ lw_all := lw_g (lw_at lw_m6 55 rfl) rfl
theorem q1351 : (Jvm.Cond.instanceMethod ({ cls := "LeaningMarket$WorkReader", name := "reads", desc := "()Ljava/util/ArrayList;" } : Jvm.MethodName)) ∈ lw_all := lw_g (lw_at lw_m6 57 rfl) rfl
theorem q1352 : (Jvm.Cond.selects "LeaningMarket$WorkReader" ({ cls := "LeaningMarket$WorkReader", name := "reads", desc := "()Ljava/util/ArrayList;" } : Jvm.MethodName) ({ cls := "LeaningMarket$WorkReader", name := "reads", desc := "()Ljava/util/ArrayList;" } : Jvm.MethodName)) ∈ lw_all := lw_g (lw_at lw_m6 58 rfl) rfl
theorem q1353 : (Jvm.Cond.code ({ cls := "LeaningMarket$WorkReader", name := "reads", desc := "()Ljava/util/ArrayList;" } : Jvm.MethodName) prog_29_method_2_code (2 : Nat) (Option.some (Jvm.ClassFile.FieldType.object "java/util/ArrayList"))) ∈ lw_all := lw_g (lw_at lw_m6 59 rfl) rfl
theorem q1354 : (Jvm.Cond.classLink "LeaningMarket$WorkReader" (15 : Nat) "java/util/ArrayList") ∈ lw_all := lw_g (lw_at lw_m6 60 rfl) rfl
theorem q1355 : (Jvm.Cond.methodLink "LeaningMarket$WorkReader" (17 : Nat) ({ cls := "java/util/ArrayList", name := "<init>", desc := "(I)V" } : Jvm.MethodName)) ∈ lw_all := lw_g (lw_at lw_m6 61 rfl) rfl
theorem q1356 : (Jvm.Cond.methodLink "LeaningMarket$WorkReader" (20 : Nat) ({ cls := "LeaningMarket$WorkReader", name := "sign", desc := "()I" } : Jvm.MethodName)) ∈ lw_all := lw_g (lw_at lw_m6 62 rfl) rfl
theorem q1357 : (Jvm.Cond.sameMethod "LeaningMarket$WorkReader" "LeaningMarket$Reader" "sign" "()I") ∈ lw_all := lw_g (lw_at lw_m6 63 rfl) rfl
theorem q1358 : (Jvm.Cond.selects "LeaningMarket$WorkReader" ({ cls := "LeaningMarket$WorkReader", name := "sign", desc := "()I" } : Jvm.MethodName) ({ cls := "LeaningMarket$Reader", name := "sign", desc := "()I" } : Jvm.MethodName)) ∈ lw_all := lw_g (lw_at lw_m6 64 rfl) rfl
theorem q1359 : (Jvm.Cond.methodLink "LeaningMarket$WorkReader" (30 : Nat) ({ cls := "LeaningMarket$WorkReader", name := "step", desc := "()LLeaningMarket$Step;" } : Jvm.MethodName)) ∈ lw_all := lw_g (lw_at lw_m6 65 rfl) rfl
theorem q1360 : (Jvm.Cond.privateMethod ({ cls := "LeaningMarket$WorkReader", name := "step", desc := "()LLeaningMarket$Step;" } : Jvm.MethodName)) ∈ lw_tbl := lw_at lw_m6 66 rfl
theorem q1361 : (Jvm.Cond.instanceMethod ({ cls := "LeaningMarket$WorkReader", name := "step", desc := "()LLeaningMarket$Step;" } : Jvm.MethodName)) ∈ lw_all := lw_g (lw_at lw_m6 67 rfl) rfl
theorem q1362 : (Jvm.Cond.code ({ cls := "LeaningMarket$WorkReader", name := "step", desc := "()LLeaningMarket$Step;" } : Jvm.MethodName) prog_29_method_3_code (5 : Nat) (Option.some (Jvm.ClassFile.FieldType.object "LeaningMarket$Step"))) ∈ lw_all := lw_g (lw_at lw_m6 68 rfl) rfl
theorem q1363 : (Jvm.Cond.methodLink "LeaningMarket$WorkReader" (38 : Nat) ({ cls := "LeaningMarket$WorkReader", name := "word", desc := "()Ljava/lang/String;" } : Jvm.MethodName)) ∈ lw_all := lw_g (lw_at lw_m6 69 rfl) rfl
theorem q1364 : (Jvm.Cond.sameMethod "LeaningMarket$WorkReader" "LeaningMarket$Reader" "word" "()Ljava/lang/String;") ∈ lw_all := lw_g (lw_at lw_m6 70 rfl) rfl
theorem q1365 : (Jvm.Cond.selects "LeaningMarket$WorkReader" ({ cls := "LeaningMarket$WorkReader", name := "word", desc := "()Ljava/lang/String;" } : Jvm.MethodName) ({ cls := "LeaningMarket$Reader", name := "word", desc := "()Ljava/lang/String;" } : Jvm.MethodName)) ∈ lw_all := lw_g (lw_at lw_m6 71 rfl) rfl
theorem q1366 : (Jvm.Cond.methodLink "LeaningMarket$WorkReader" (42 : Nat) ({ cls := "java/lang/String", name := "hashCode", desc := "()I" } : Jvm.MethodName)) ∈ lw_all := lw_g (lw_at lw_m6 72 rfl) rfl
theorem q1367 : (Jvm.Cond.stringRef "LeaningMarket$WorkReader" (47 : Nat) "weigh") ∈ lw_tbl := lw_at lw_m6 73 rfl
theorem q1368 : (Jvm.Cond.methodLink "LeaningMarket$WorkReader" (49 : Nat) ({ cls := "java/lang/String", name := "equals", desc := "(Ljava/lang/Object;)Z" } : Jvm.MethodName)) ∈ lw_all := lw_g (lw_at lw_m6 74 rfl) rfl
theorem q1369 : (Jvm.Cond.stringRef "LeaningMarket$WorkReader" (52 : Nat) "tip") ∈ lw_tbl := lw_at lw_m6 75 rfl
theorem q1370 : (Jvm.Cond.stringRef "LeaningMarket$WorkReader" (54 : Nat) "feed") ∈ lw_tbl := lw_at lw_m6 76 rfl
theorem q1371 : (Jvm.Cond.stringRef "LeaningMarket$WorkReader" (56 : Nat) "turn") ∈ lw_tbl := lw_at lw_m6 77 rfl
theorem q1372 : (Jvm.Cond.stringRef "LeaningMarket$WorkReader" (58 : Nat) "day") ∈ lw_tbl := lw_at lw_m6 78 rfl
theorem q1373 : (Jvm.Cond.stringRef "LeaningMarket$WorkReader" (60 : Nat) "again") ∈ lw_tbl := lw_at lw_m6 79 rfl
theorem q1374 : (Jvm.Cond.methodLink "LeaningMarket$WorkReader" (62 : Nat) ({ cls := "java/lang/String", name := "length", desc := "()I" } : Jvm.MethodName)) ∈ lw_all := lw_g (lw_at lw_m6 80 rfl) rfl
theorem q1375 : (Jvm.Cond.methodLink "LeaningMarket$WorkReader" (65 : Nat) ({ cls := "LeaningMarket$WorkReader", name := "act", desc := "(Ljava/lang/String;)LLeaningMarket$Step;" } : Jvm.MethodName)) ∈ lw_all := lw_g (lw_at lw_m6 81 rfl) rfl
theorem q1376 : (Jvm.Cond.privateMethod ({ cls := "LeaningMarket$WorkReader", name := "act", desc := "(Ljava/lang/String;)LLeaningMarket$Step;" } : Jvm.MethodName)) ∈ lw_tbl := lw_at lw_m6 82 rfl
theorem q1377 : (Jvm.Cond.instanceMethod ({ cls := "LeaningMarket$WorkReader", name := "act", desc := "(Ljava/lang/String;)LLeaningMarket$Step;" } : Jvm.MethodName)) ∈ lw_all := lw_g (lw_at lw_m6 83 rfl) rfl
theorem q1378 : (Jvm.Cond.code ({ cls := "LeaningMarket$WorkReader", name := "act", desc := "(Ljava/lang/String;)LLeaningMarket$Step;" } : Jvm.MethodName) prog_29_method_4_code (5 : Nat) (Option.some (Jvm.ClassFile.FieldType.object "LeaningMarket$Step"))) ∈ lw_all := lw_g (lw_at lw_m6 84 rfl) rfl
theorem q1379 : (Jvm.Cond.classLink "LeaningMarket$WorkReader" (78 : Nat) "LeaningMarket$Weighs") ∈ lw_all := lw_g (lw_at lw_m6 85 rfl) rfl
theorem q1381 : (Jvm.Cond.methodLink "LeaningMarket$WorkReader" (80 : Nat) ({ cls := "LeaningMarket$WorkReader", name := "pans", desc := "(I)LLeaningMarket$Cry;" } : Jvm.MethodName)) ∈ lw_all := lw_g (lw_at lw_m6 87 rfl) rfl
theorem q1382 : (Jvm.Cond.sameMethod "LeaningMarket$WorkReader" "LeaningMarket$PanReader" "pans" "(I)LLeaningMarket$Cry;") ∈ lw_all := lw_g (lw_at lw_m6 88 rfl) rfl
theorem q1383 : (Jvm.Cond.selects "LeaningMarket$WorkReader" ({ cls := "LeaningMarket$WorkReader", name := "pans", desc := "(I)LLeaningMarket$Cry;" } : Jvm.MethodName) ({ cls := "LeaningMarket$PanReader", name := "pans", desc := "(I)LLeaningMarket$Cry;" } : Jvm.MethodName)) ∈ lw_all := lw_g (lw_at lw_m6 89 rfl) rfl
theorem q1384 : (Jvm.Cond.methodLink "LeaningMarket$WorkReader" (84 : Nat) ({ cls := "LeaningMarket$Weighs", name := "<init>", desc := "(LLeaningMarket$Cry;)V" } : Jvm.MethodName)) ∈ lw_all := lw_g (lw_at lw_m6 90 rfl) rfl
theorem q1398 : (Jvm.Cond.classLink "LeaningMarket$WorkReader" (87 : Nat) "LeaningMarket$Tips") ∈ lw_all := lw_g (lw_at lw_m6 104 rfl) rfl
theorem q1400 : (Jvm.Cond.methodLink "LeaningMarket$WorkReader" (89 : Nat) ({ cls := "LeaningMarket$WorkReader", name := "number", desc := "(II)I" } : Jvm.MethodName)) ∈ lw_all := lw_g (lw_at lw_m6 106 rfl) rfl
theorem q1401 : (Jvm.Cond.sameMethod "LeaningMarket$WorkReader" "LeaningMarket$Reader" "number" "(II)I") ∈ lw_all := lw_g (lw_at lw_m6 107 rfl) rfl
theorem q1402 : (Jvm.Cond.selects "LeaningMarket$WorkReader" ({ cls := "LeaningMarket$WorkReader", name := "number", desc := "(II)I" } : Jvm.MethodName) ({ cls := "LeaningMarket$Reader", name := "number", desc := "(II)I" } : Jvm.MethodName)) ∈ lw_all := lw_g (lw_at lw_m6 108 rfl) rfl
theorem q1403 : (Jvm.Cond.methodLink "LeaningMarket$WorkReader" (93 : Nat) ({ cls := "LeaningMarket$Tips", name := "<init>", desc := "(I)V" } : Jvm.MethodName)) ∈ lw_all := lw_g (lw_at lw_m6 109 rfl) rfl
theorem q1411 : (Jvm.Cond.classLink "LeaningMarket$WorkReader" (94 : Nat) "LeaningMarket$Feeds") ∈ lw_all := lw_g (lw_at lw_m6 117 rfl) rfl
theorem q1413 : (Jvm.Cond.methodLink "LeaningMarket$WorkReader" (96 : Nat) ({ cls := "LeaningMarket$Feeds", name := "<init>", desc := "(II)V" } : Jvm.MethodName)) ∈ lw_all := lw_g (lw_at lw_m6 119 rfl) rfl
theorem q1424 : (Jvm.Cond.classLink "LeaningMarket$WorkReader" (99 : Nat) "LeaningMarket$Turns") ∈ lw_all := lw_g (lw_at lw_m6 130 rfl) rfl
theorem q1426 : (Jvm.Cond.methodLinkNest "LeaningMarket$WorkReader" (101 : Nat) ({ cls := "LeaningMarket$Turns", name := "<init>", desc := "()V" } : Jvm.MethodName) "LeaningMarket") ∈ lw_tbl := lw_at lw_m6 132 rfl
theorem q1431 : (Jvm.Cond.classLink "LeaningMarket$WorkReader" (104 : Nat) "LeaningMarket$Passes") ∈ lw_all := lw_g (lw_at lw_m6 137 rfl) rfl
theorem q1433 : (Jvm.Cond.methodLinkNest "LeaningMarket$WorkReader" (106 : Nat) ({ cls := "LeaningMarket$Passes", name := "<init>", desc := "()V" } : Jvm.MethodName) "LeaningMarket") ∈ lw_tbl := lw_at lw_m6 139 rfl
theorem q1438 : (Jvm.Cond.methodLink "LeaningMarket$WorkReader" (69 : Nat) ({ cls := "LeaningMarket$WorkReader", name := "again", desc := "()LLeaningMarket$Step;" } : Jvm.MethodName)) ∈ lw_all := lw_g (lw_at lw_m6 144 rfl) rfl
theorem q1439 : (Jvm.Cond.privateMethod ({ cls := "LeaningMarket$WorkReader", name := "again", desc := "()LLeaningMarket$Step;" } : Jvm.MethodName)) ∈ lw_tbl := lw_at lw_m6 145 rfl
theorem q1440 : (Jvm.Cond.instanceMethod ({ cls := "LeaningMarket$WorkReader", name := "again", desc := "()LLeaningMarket$Step;" } : Jvm.MethodName)) ∈ lw_all := lw_g (lw_at lw_m6 146 rfl) rfl
theorem q1441 : (Jvm.Cond.code ({ cls := "LeaningMarket$WorkReader", name := "again", desc := "()LLeaningMarket$Step;" } : Jvm.MethodName) prog_29_method_5_code (2 : Nat) (Option.some (Jvm.ClassFile.FieldType.object "LeaningMarket$Step"))) ∈ lw_all := lw_g (lw_at lw_m6 147 rfl) rfl
theorem q1442 : (Jvm.Cond.methodLink "LeaningMarket$WorkReader" (107 : Nat) ({ cls := "LeaningMarket$WorkReader", name := "opens", desc := "(I)V" } : Jvm.MethodName)) ∈ lw_all := lw_g (lw_at lw_m6 148 rfl) rfl
theorem q1443 : (Jvm.Cond.sameMethod "LeaningMarket$WorkReader" "LeaningMarket$Reader" "opens" "(I)V") ∈ lw_all := lw_g (lw_at lw_m6 149 rfl) rfl
theorem q1444 : (Jvm.Cond.selects "LeaningMarket$WorkReader" ({ cls := "LeaningMarket$WorkReader", name := "opens", desc := "(I)V" } : Jvm.MethodName) ({ cls := "LeaningMarket$Reader", name := "opens", desc := "(I)V" } : Jvm.MethodName)) ∈ lw_all := lw_g (lw_at lw_m6 150 rfl) rfl
theorem q1445 : (Jvm.Cond.classLink "LeaningMarket$WorkReader" (110 : Nat) "LeaningMarket$Again") ∈ lw_all := lw_g (lw_at lw_m6 151 rfl) rfl
theorem q1447 : (Jvm.Cond.methodLink "LeaningMarket$WorkReader" (112 : Nat) ({ cls := "LeaningMarket$Again", name := "<init>", desc := "(I)V" } : Jvm.MethodName)) ∈ lw_all := lw_g (lw_at lw_m6 153 rfl) rfl
theorem q1455 : (Jvm.Cond.fieldLinkNest "LeaningMarket$WorkReader" (113 : Nat) "LeaningMarket$Again" "steps" "Ljava/util/ArrayList;" "LeaningMarket") ∈ lw_tbl := lw_at lw_m6 161 rfl
theorem q1461 : (Jvm.Cond.methodLink "LeaningMarket$WorkReader" (75 : Nat) ({ cls := "LeaningMarket$WorkReader", name := "need", desc := "(I)V" } : Jvm.MethodName)) ∈ lw_all := lw_g (lw_at lw_m6 167 rfl) rfl
theorem q1462 : (Jvm.Cond.sameMethod "LeaningMarket$WorkReader" "LeaningMarket$Reader" "need" "(I)V") ∈ lw_all := lw_g (lw_at lw_m6 168 rfl) rfl
theorem q1463 : (Jvm.Cond.selects "LeaningMarket$WorkReader" ({ cls := "LeaningMarket$WorkReader", name := "need", desc := "(I)V" } : Jvm.MethodName) ({ cls := "LeaningMarket$Reader", name := "need", desc := "(I)V" } : Jvm.MethodName)) ∈ lw_all := lw_g (lw_at lw_m6 169 rfl) rfl
theorem q1464 : (Jvm.Cond.methodLink "LeaningMarket$WorkReader" (34 : Nat) ({ cls := "java/util/ArrayList", name := "add", desc := "(Ljava/lang/Object;)Z" } : Jvm.MethodName)) ∈ lw_all := lw_g (lw_at lw_m6 170 rfl) rfl
theorem q1465 : (Jvm.Cond.methodLink "LeaningMarket$WorkReader" (71 : Nat) ({ cls := "LeaningMarket$WorkReader", name := "wrong", desc := "()LLeaningMarket$Wrong;" } : Jvm.MethodName)) ∈ lw_all := lw_g (lw_at lw_m6 171 rfl) rfl
theorem q1466 : (Jvm.Cond.sameMethod "LeaningMarket$WorkReader" "LeaningMarket$Reader" "wrong" "()LLeaningMarket$Wrong;") ∈ lw_all := lw_g (lw_at lw_m6 172 rfl) rfl
theorem q1467 : (Jvm.Cond.selects "LeaningMarket$WorkReader" ({ cls := "LeaningMarket$WorkReader", name := "wrong", desc := "()LLeaningMarket$Wrong;" } : Jvm.MethodName) ({ cls := "LeaningMarket$Reader", name := "wrong", desc := "()LLeaningMarket$Wrong;" } : Jvm.MethodName)) ∈ lw_all := lw_g (lw_at lw_m6 173 rfl) rfl
theorem q2552 : (Jvm.Cond.selects "LeaningMarket$WorkReader" ({ cls := "LeaningMarket$Reader", name := "sign", desc := "()I" } : Jvm.MethodName) ({ cls := "LeaningMarket$Reader", name := "sign", desc := "()I" } : Jvm.MethodName)) ∈ lw_all := lw_g (lw_at lw_m11 58 rfl) rfl
theorem q2559 : (Jvm.Cond.selects "LeaningMarket$WorkReader" ({ cls := "LeaningMarket$Reader", name := "wrong", desc := "()LLeaningMarket$Wrong;" } : Jvm.MethodName) ({ cls := "LeaningMarket$Reader", name := "wrong", desc := "()LLeaningMarket$Wrong;" } : Jvm.MethodName)) ∈ lw_all := lw_g (lw_at lw_m11 65 rfl) rfl
theorem q2589 : (Jvm.Cond.castable "LeaningMarket$WorkReader" "java/lang/Object") ∈ lw_tbl := lw_at lw_m11 95 rfl
theorem in_X22 : ∀ w ∈ wsX220, w ∈ lw_all := lw_in wsX220 [1344, 1345, 1346, 1347, 1348, 1342] (by decide +kernel) (by decide +kernel)

/-! LeaningMarket$Step -/
set_option maxRecDepth 100000
def RX23 : String := "LeaningMarket$Step"
abbrev cX23_init : ByteArray := prog_21_method_1_code
def yX23_init : MethodName := ⟨RX23, "<init>", "()V"⟩
abbrev cX23_may : ByteArray := prog_21_method_3_code
def yX23_may : MethodName := ⟨RX23, "may", "(LLeaningMarket$Market;)Z"⟩
theorem q137 : (Jvm.Cond.initialized "LeaningMarket$Step") ∈ lw_all := lw_g (lw_at lw_m1 43 rfl) rfl
theorem q598 : (Jvm.Cond.fieldLinkNest "LeaningMarket$Step" (9 : Nat) "LeaningMarket$Market" "steps" "I" "LeaningMarket") ∈ lw_tbl := lw_at lw_m3 24 rfl
theorem q1391 : (Jvm.Cond.instanceMethod ({ cls := "LeaningMarket$Step", name := "<init>", desc := "()V" } : Jvm.MethodName)) ∈ lw_all := lw_g (lw_at lw_m6 97 rfl) rfl
theorem q1392 : (Jvm.Cond.code ({ cls := "LeaningMarket$Step", name := "<init>", desc := "()V" } : Jvm.MethodName) prog_21_method_1_code (1 : Nat) (Option.none : Option Jvm.ClassFile.FieldType)) ∈ lw_all := lw_g (lw_at lw_m6 98 rfl) rfl
theorem q1393 : (Jvm.Cond.methodLink "LeaningMarket$Step" (3 : Nat) ({ cls := "java/lang/Object", name := "<init>", desc := "()V" } : Jvm.MethodName)) ∈ lw_all := lw_g (lw_at lw_m6 99 rfl) rfl
theorem q1470 : (Jvm.Cond.declares ({ cls := "LeaningMarket$Step", name := "goes", desc := "(LLeaningMarket$Market;)V" } : Jvm.MethodName)) ∈ lw_tbl := lw_at lw_m6 176 rfl
theorem q1471 : (Jvm.Cond.sameMethod "LeaningMarket$Step" "LeaningMarket$Step" "goes" "(LLeaningMarket$Market;)V") ∈ lw_all := lw_g (lw_at lw_m6 177 rfl) rfl
theorem q1477 : (Jvm.Cond.static ({ cls := "LeaningMarket$Step", name := "may", desc := "(LLeaningMarket$Market;)Z" } : Jvm.MethodName)) ∈ lw_all := lw_g (lw_at lw_m6 183 rfl) rfl
theorem q1478 : (Jvm.Cond.code ({ cls := "LeaningMarket$Step", name := "may", desc := "(LLeaningMarket$Market;)Z" } : Jvm.MethodName) prog_21_method_3_code (1 : Nat) (Option.some Jvm.ClassFile.FieldType.boolean)) ∈ lw_all := lw_g (lw_at lw_m6 184 rfl) rfl

/-! LeaningMarket$Act -/
set_option maxRecDepth 100000
def RX24 : String := "LeaningMarket$Act"
abbrev cX24_init : ByteArray := prog_2_method_1_code
def yX24_init : MethodName := ⟨RX24, "<init>", "()V"⟩
abbrev cX24_goes : ByteArray := prog_2_method_3_code
def yX24_goes : MethodName := ⟨RX24, "goes", "(LLeaningMarket$Market;)V"⟩
theorem q138 : (Jvm.Cond.initialized "LeaningMarket$Act") ∈ lw_all := lw_g (lw_at lw_m1 44 rfl) rfl
theorem q600 : (Jvm.Cond.fieldLinkNest "LeaningMarket$Act" (16 : Nat) "LeaningMarket$Market" "done" "I" "LeaningMarket") ∈ lw_tbl := lw_at lw_m3 26 rfl
theorem q602 : (Jvm.Cond.fieldLinkNest "LeaningMarket$Act" (22 : Nat) "LeaningMarket$Market" "refused" "I" "LeaningMarket") ∈ lw_tbl := lw_at lw_m3 28 rfl
theorem q1388 : (Jvm.Cond.instanceMethod ({ cls := "LeaningMarket$Act", name := "<init>", desc := "()V" } : Jvm.MethodName)) ∈ lw_all := lw_g (lw_at lw_m6 94 rfl) rfl
theorem q1389 : (Jvm.Cond.code ({ cls := "LeaningMarket$Act", name := "<init>", desc := "()V" } : Jvm.MethodName) prog_2_method_1_code (1 : Nat) (Option.none : Option Jvm.ClassFile.FieldType)) ∈ lw_all := lw_g (lw_at lw_m6 95 rfl) rfl
theorem q1390 : (Jvm.Cond.methodLinkNest "LeaningMarket$Act" (1 : Nat) ({ cls := "LeaningMarket$Step", name := "<init>", desc := "()V" } : Jvm.MethodName) "LeaningMarket") ∈ lw_tbl := lw_at lw_m6 96 rfl
theorem q1483 : (Jvm.Cond.instanceMethod ({ cls := "LeaningMarket$Act", name := "goes", desc := "(LLeaningMarket$Market;)V" } : Jvm.MethodName)) ∈ lw_all := lw_g (lw_at lw_m6 189 rfl) rfl
theorem q1484 : (Jvm.Cond.code ({ cls := "LeaningMarket$Act", name := "goes", desc := "(LLeaningMarket$Market;)V" } : Jvm.MethodName) prog_2_method_3_code (3 : Nat) (Option.none : Option Jvm.ClassFile.FieldType)) ∈ lw_all := lw_g (lw_at lw_m6 190 rfl) rfl
theorem q1485 : (Jvm.Cond.methodLink "LeaningMarket$Act" (7 : Nat) ({ cls := "LeaningMarket$Act", name := "may", desc := "(LLeaningMarket$Market;)Z" } : Jvm.MethodName)) ∈ lw_all := lw_g (lw_at lw_m6 191 rfl) rfl
theorem q1486 : (Jvm.Cond.sameMethod "LeaningMarket$Act" "LeaningMarket$Step" "may" "(LLeaningMarket$Market;)Z") ∈ lw_all := lw_g (lw_at lw_m6 192 rfl) rfl
theorem q1487 : (Jvm.Cond.methodLink "LeaningMarket$Act" (13 : Nat) ({ cls := "LeaningMarket$Act", name := "isDone", desc := "(LLeaningMarket$Market;)Z" } : Jvm.MethodName)) ∈ lw_all := lw_g (lw_at lw_m6 193 rfl) rfl
theorem q1488 : (Jvm.Cond.declares ({ cls := "LeaningMarket$Act", name := "isDone", desc := "(LLeaningMarket$Market;)Z" } : Jvm.MethodName)) ∈ lw_tbl := lw_at lw_m6 194 rfl
theorem q1489 : (Jvm.Cond.sameMethod "LeaningMarket$Act" "LeaningMarket$Act" "isDone" "(LLeaningMarket$Market;)Z") ∈ lw_all := lw_g (lw_at lw_m6 195 rfl) rfl

/-! LeaningMarket$Weighs -/
set_option maxRecDepth 100000
def RX25 : String := "LeaningMarket$Weighs"
def TX25 : u_T := fun k => match k with
  | _ => ("LeaningMarket$Weighs", "pans", "LLeaningMarket$Cry;", true)
def tyX25 : Nat → FieldType := fun k => match k with
  | _ => .object "LeaningMarket$Cry"
abbrev wsX250 : List Cond := u_ws RX25 TX25 1
theorem nmX25 : ∀ a, a < 1 → ∀ b, b < 1 → a ≠ b → (TX25 a).2.1 ≠ (TX25 b).2.1 := by decide +kernel
theorem tyX25_ok : ∀ k, k < 1 → parseFieldDescriptor (TX25 k).2.2.1 = some (tyX25 k) := by decide +kernel
abbrev cX25_init : ByteArray := prog_28_method_1_code
def yX25_init : MethodName := ⟨RX25, "<init>", "(LLeaningMarket$Cry;)V"⟩
abbrev cX25_isDone : ByteArray := prog_28_method_2_code
def yX25_isDone : MethodName := ⟨RX25, "isDone", "(LLeaningMarket$Market;)Z"⟩
theorem q139 : (Jvm.Cond.initialized "LeaningMarket$Weighs") ∈ lw_all := lw_g (lw_at lw_m1 45 rfl) rfl
theorem q711 : (Jvm.Cond.selects "LeaningMarket$Weighs" ({ cls := "java/lang/Object", name := "getClass", desc := "()Ljava/lang/Class;" } : Jvm.MethodName) ({ cls := "java/lang/Object", name := "getClass", desc := "()Ljava/lang/Class;" } : Jvm.MethodName)) ∈ lw_all := lw_g (lw_at lw_m3 137 rfl) rfl
theorem q1157 : (Jvm.Cond.fieldLinkNest "LeaningMarket$Weighs" (13 : Nat) "LeaningMarket$Cry" "a" "I" "LeaningMarket") ∈ lw_tbl := lw_at lw_m5 103 rfl
theorem q1161 : (Jvm.Cond.fieldLinkNest "LeaningMarket$Weighs" (19 : Nat) "LeaningMarket$Cry" "n" "I" "LeaningMarket") ∈ lw_tbl := lw_at lw_m5 107 rfl
theorem q1165 : (Jvm.Cond.fieldLinkNest "LeaningMarket$Weighs" (22 : Nat) "LeaningMarket$Cry" "b" "I" "LeaningMarket") ∈ lw_tbl := lw_at lw_m5 111 rfl
theorem q1169 : (Jvm.Cond.fieldLinkNest "LeaningMarket$Weighs" (25 : Nat) "LeaningMarket$Cry" "m" "I" "LeaningMarket") ∈ lw_tbl := lw_at lw_m5 115 rfl
theorem q1380 : (Jvm.Cond.instantiable "LeaningMarket$Weighs" (1 : Nat)) ∈ lw_all := lw_g (lw_at lw_m6 86 rfl) rfl
theorem q1385 : (Jvm.Cond.instanceMethod ({ cls := "LeaningMarket$Weighs", name := "<init>", desc := "(LLeaningMarket$Cry;)V" } : Jvm.MethodName)) ∈ lw_all := lw_g (lw_at lw_m6 91 rfl) rfl
theorem q1386 : (Jvm.Cond.code ({ cls := "LeaningMarket$Weighs", name := "<init>", desc := "(LLeaningMarket$Cry;)V" } : Jvm.MethodName) prog_28_method_1_code (2 : Nat) (Option.none : Option Jvm.ClassFile.FieldType)) ∈ lw_all := lw_g (lw_at lw_m6 92 rfl) rfl
theorem q1387 : (Jvm.Cond.methodLinkNest "LeaningMarket$Weighs" (1 : Nat) ({ cls := "LeaningMarket$Act", name := "<init>", desc := "()V" } : Jvm.MethodName) "LeaningMarket") ∈ lw_tbl := lw_at lw_m6 93 rfl
theorem q1394 : (Jvm.Cond.fieldLink "LeaningMarket$Weighs" (7 : Nat) "LeaningMarket$Weighs" "pans" "LLeaningMarket$Cry;") ∈ lw_all := lw_g (lw_at lw_m6 100 rfl) rfl
theorem q1395 : (Jvm.Cond.laysFinal "LeaningMarket$Weighs" "LeaningMarket$Weighs" "pans" "LLeaningMarket$Cry;") ∈ lw_all := lw_g (lw_at lw_m6 101 rfl) rfl
theorem q1396 : (Jvm.Cond.soleField "LeaningMarket$Weighs" "pans") ∈ lw_all := lw_g (lw_at lw_m6 102 rfl) rfl
theorem q1397 : (Jvm.Cond.superclass "LeaningMarket$Weighs" "LeaningMarket$Act") ∈ lw_all := lw_g (lw_at lw_m6 103 rfl) rfl
theorem q1597 : (Jvm.Cond.selects "LeaningMarket$Weighs" ({ cls := "LeaningMarket$Act", name := "isDone", desc := "(LLeaningMarket$Market;)Z" } : Jvm.MethodName) ({ cls := "LeaningMarket$Weighs", name := "isDone", desc := "(LLeaningMarket$Market;)Z" } : Jvm.MethodName)) ∈ lw_all := lw_g (lw_at lw_m7 63 rfl) rfl
theorem q1598 : (Jvm.Cond.instanceMethod ({ cls := "LeaningMarket$Weighs", name := "isDone", desc := "(LLeaningMarket$Market;)Z" } : Jvm.MethodName)) ∈ lw_all := lw_g (lw_at lw_m7 64 rfl) rfl
theorem q1599 : (Jvm.Cond.code ({ cls := "LeaningMarket$Weighs", name := "isDone", desc := "(LLeaningMarket$Market;)Z" } : Jvm.MethodName) prog_28_method_2_code (2 : Nat) (Option.some Jvm.ClassFile.FieldType.boolean)) ∈ lw_all := lw_g (lw_at lw_m7 65 rfl) rfl
theorem q1600 : (Jvm.Cond.methodLink "LeaningMarket$Weighs" (28 : Nat) ({ cls := "LeaningMarket$Market", name := "weighs", desc := "(IIII)Z" } : Jvm.MethodName)) ∈ lw_all := lw_g (lw_at lw_m7 66 rfl) rfl
theorem q1624 : (Jvm.Cond.selects "LeaningMarket$Weighs" ({ cls := "LeaningMarket$Step", name := "goes", desc := "(LLeaningMarket$Market;)V" } : Jvm.MethodName) ({ cls := "LeaningMarket$Act", name := "goes", desc := "(LLeaningMarket$Market;)V" } : Jvm.MethodName)) ∈ lw_all := lw_g (lw_at lw_m7 90 rfl) rfl
theorem q2566 : (Jvm.Cond.castable "LeaningMarket$Weighs" "LeaningMarket$Step") ∈ lw_tbl := lw_at lw_m11 72 rfl
theorem q2590 : (Jvm.Cond.castable "LeaningMarket$Weighs" "java/lang/Object") ∈ lw_tbl := lw_at lw_m11 96 rfl
theorem in_X25 : ∀ w ∈ wsX250, w ∈ lw_all := lw_in wsX250 [1395] (by decide +kernel) (by decide +kernel)

/-! LeaningMarket$Tips -/
set_option maxRecDepth 100000
def RX26 : String := "LeaningMarket$Tips"
def TX26 : u_T := fun k => match k with
  | _ => ("LeaningMarket$Tips", "cry", "I", true)
def tyX26 : Nat → FieldType := fun k => match k with
  | _ => .int
abbrev wsX260 : List Cond := u_ws RX26 TX26 1
theorem nmX26 : ∀ a, a < 1 → ∀ b, b < 1 → a ≠ b → (TX26 a).2.1 ≠ (TX26 b).2.1 := by decide +kernel
theorem tyX26_ok : ∀ k, k < 1 → parseFieldDescriptor (TX26 k).2.2.1 = some (tyX26 k) := by decide +kernel
abbrev cX26_init : ByteArray := prog_24_method_1_code
def yX26_init : MethodName := ⟨RX26, "<init>", "(I)V"⟩
abbrev cX26_isDone : ByteArray := prog_24_method_2_code
def yX26_isDone : MethodName := ⟨RX26, "isDone", "(LLeaningMarket$Market;)Z"⟩
theorem q140 : (Jvm.Cond.initialized "LeaningMarket$Tips") ∈ lw_all := lw_g (lw_at lw_m1 46 rfl) rfl
theorem q708 : (Jvm.Cond.selects "LeaningMarket$Tips" ({ cls := "java/lang/Object", name := "getClass", desc := "()Ljava/lang/Class;" } : Jvm.MethodName) ({ cls := "java/lang/Object", name := "getClass", desc := "()Ljava/lang/Class;" } : Jvm.MethodName)) ∈ lw_all := lw_g (lw_at lw_m3 134 rfl) rfl
theorem q1399 : (Jvm.Cond.instantiable "LeaningMarket$Tips" (1 : Nat)) ∈ lw_all := lw_g (lw_at lw_m6 105 rfl) rfl
theorem q1404 : (Jvm.Cond.instanceMethod ({ cls := "LeaningMarket$Tips", name := "<init>", desc := "(I)V" } : Jvm.MethodName)) ∈ lw_all := lw_g (lw_at lw_m6 110 rfl) rfl
theorem q1405 : (Jvm.Cond.code ({ cls := "LeaningMarket$Tips", name := "<init>", desc := "(I)V" } : Jvm.MethodName) prog_24_method_1_code (2 : Nat) (Option.none : Option Jvm.ClassFile.FieldType)) ∈ lw_all := lw_g (lw_at lw_m6 111 rfl) rfl
theorem q1406 : (Jvm.Cond.methodLinkNest "LeaningMarket$Tips" (1 : Nat) ({ cls := "LeaningMarket$Act", name := "<init>", desc := "()V" } : Jvm.MethodName) "LeaningMarket") ∈ lw_tbl := lw_at lw_m6 112 rfl
theorem q1407 : (Jvm.Cond.fieldLink "LeaningMarket$Tips" (7 : Nat) "LeaningMarket$Tips" "cry" "I") ∈ lw_all := lw_g (lw_at lw_m6 113 rfl) rfl
theorem q1408 : (Jvm.Cond.laysFinal "LeaningMarket$Tips" "LeaningMarket$Tips" "cry" "I") ∈ lw_all := lw_g (lw_at lw_m6 114 rfl) rfl
theorem q1409 : (Jvm.Cond.soleField "LeaningMarket$Tips" "cry") ∈ lw_all := lw_g (lw_at lw_m6 115 rfl) rfl
theorem q1410 : (Jvm.Cond.superclass "LeaningMarket$Tips" "LeaningMarket$Act") ∈ lw_all := lw_g (lw_at lw_m6 116 rfl) rfl
theorem q1574 : (Jvm.Cond.selects "LeaningMarket$Tips" ({ cls := "LeaningMarket$Act", name := "isDone", desc := "(LLeaningMarket$Market;)Z" } : Jvm.MethodName) ({ cls := "LeaningMarket$Tips", name := "isDone", desc := "(LLeaningMarket$Market;)Z" } : Jvm.MethodName)) ∈ lw_all := lw_g (lw_at lw_m7 40 rfl) rfl
theorem q1575 : (Jvm.Cond.instanceMethod ({ cls := "LeaningMarket$Tips", name := "isDone", desc := "(LLeaningMarket$Market;)Z" } : Jvm.MethodName)) ∈ lw_all := lw_g (lw_at lw_m7 41 rfl) rfl
theorem q1576 : (Jvm.Cond.code ({ cls := "LeaningMarket$Tips", name := "isDone", desc := "(LLeaningMarket$Market;)Z" } : Jvm.MethodName) prog_24_method_2_code (2 : Nat) (Option.some Jvm.ClassFile.FieldType.boolean)) ∈ lw_all := lw_g (lw_at lw_m7 42 rfl) rfl
theorem q1577 : (Jvm.Cond.methodLink "LeaningMarket$Tips" (13 : Nat) ({ cls := "LeaningMarket$Market", name := "tips", desc := "(I)Z" } : Jvm.MethodName)) ∈ lw_all := lw_g (lw_at lw_m7 43 rfl) rfl
theorem q1622 : (Jvm.Cond.selects "LeaningMarket$Tips" ({ cls := "LeaningMarket$Step", name := "goes", desc := "(LLeaningMarket$Market;)V" } : Jvm.MethodName) ({ cls := "LeaningMarket$Act", name := "goes", desc := "(LLeaningMarket$Market;)V" } : Jvm.MethodName)) ∈ lw_all := lw_g (lw_at lw_m7 88 rfl) rfl
theorem q2564 : (Jvm.Cond.castable "LeaningMarket$Tips" "LeaningMarket$Step") ∈ lw_tbl := lw_at lw_m11 70 rfl
theorem q2591 : (Jvm.Cond.castable "LeaningMarket$Tips" "java/lang/Object") ∈ lw_tbl := lw_at lw_m11 97 rfl
theorem in_X26 : ∀ w ∈ wsX260, w ∈ lw_all := lw_in wsX260 [1408] (by decide +kernel) (by decide +kernel)

/-! LeaningMarket$Feeds -/
set_option maxRecDepth 100000
def RX27 : String := "LeaningMarket$Feeds"
def TX27 : u_T := fun k => match k with
  | 0 => ("LeaningMarket$Feeds", "thing", "I", true)
  | _ => ("LeaningMarket$Feeds", "more", "I", true)
def tyX27 : Nat → FieldType := fun k => match k with
  | 0 => .int
  | _ => .int
abbrev wsX270 : List Cond := u_ws RX27 TX27 2
theorem nmX27 : ∀ a, a < 2 → ∀ b, b < 2 → a ≠ b → (TX27 a).2.1 ≠ (TX27 b).2.1 := by decide +kernel
theorem tyX27_ok : ∀ k, k < 2 → parseFieldDescriptor (TX27 k).2.2.1 = some (tyX27 k) := by decide +kernel
abbrev cX27_init : ByteArray := prog_8_method_1_code
def yX27_init : MethodName := ⟨RX27, "<init>", "(II)V"⟩
abbrev cX27_isDone : ByteArray := prog_8_method_2_code
def yX27_isDone : MethodName := ⟨RX27, "isDone", "(LLeaningMarket$Market;)Z"⟩
theorem q141 : (Jvm.Cond.initialized "LeaningMarket$Feeds") ∈ lw_all := lw_g (lw_at lw_m1 47 rfl) rfl
theorem q696 : (Jvm.Cond.selects "LeaningMarket$Feeds" ({ cls := "java/lang/Object", name := "getClass", desc := "()Ljava/lang/Class;" } : Jvm.MethodName) ({ cls := "java/lang/Object", name := "getClass", desc := "()Ljava/lang/Class;" } : Jvm.MethodName)) ∈ lw_all := lw_g (lw_at lw_m3 122 rfl) rfl
theorem q1412 : (Jvm.Cond.instantiable "LeaningMarket$Feeds" (2 : Nat)) ∈ lw_all := lw_g (lw_at lw_m6 118 rfl) rfl
theorem q1414 : (Jvm.Cond.instanceMethod ({ cls := "LeaningMarket$Feeds", name := "<init>", desc := "(II)V" } : Jvm.MethodName)) ∈ lw_all := lw_g (lw_at lw_m6 120 rfl) rfl
theorem q1415 : (Jvm.Cond.code ({ cls := "LeaningMarket$Feeds", name := "<init>", desc := "(II)V" } : Jvm.MethodName) prog_8_method_1_code (3 : Nat) (Option.none : Option Jvm.ClassFile.FieldType)) ∈ lw_all := lw_g (lw_at lw_m6 121 rfl) rfl
theorem q1416 : (Jvm.Cond.methodLinkNest "LeaningMarket$Feeds" (1 : Nat) ({ cls := "LeaningMarket$Act", name := "<init>", desc := "()V" } : Jvm.MethodName) "LeaningMarket") ∈ lw_tbl := lw_at lw_m6 122 rfl
theorem q1417 : (Jvm.Cond.fieldLink "LeaningMarket$Feeds" (7 : Nat) "LeaningMarket$Feeds" "thing" "I") ∈ lw_all := lw_g (lw_at lw_m6 123 rfl) rfl
theorem q1418 : (Jvm.Cond.fieldLink "LeaningMarket$Feeds" (13 : Nat) "LeaningMarket$Feeds" "more" "I") ∈ lw_all := lw_g (lw_at lw_m6 124 rfl) rfl
theorem q1419 : (Jvm.Cond.laysFinal "LeaningMarket$Feeds" "LeaningMarket$Feeds" "thing" "I") ∈ lw_all := lw_g (lw_at lw_m6 125 rfl) rfl
theorem q1420 : (Jvm.Cond.soleField "LeaningMarket$Feeds" "thing") ∈ lw_all := lw_g (lw_at lw_m6 126 rfl) rfl
theorem q1421 : (Jvm.Cond.laysFinal "LeaningMarket$Feeds" "LeaningMarket$Feeds" "more" "I") ∈ lw_all := lw_g (lw_at lw_m6 127 rfl) rfl
theorem q1422 : (Jvm.Cond.soleField "LeaningMarket$Feeds" "more") ∈ lw_all := lw_g (lw_at lw_m6 128 rfl) rfl
theorem q1423 : (Jvm.Cond.superclass "LeaningMarket$Feeds" "LeaningMarket$Act") ∈ lw_all := lw_g (lw_at lw_m6 129 rfl) rfl
theorem q1490 : (Jvm.Cond.selects "LeaningMarket$Feeds" ({ cls := "LeaningMarket$Act", name := "isDone", desc := "(LLeaningMarket$Market;)Z" } : Jvm.MethodName) ({ cls := "LeaningMarket$Feeds", name := "isDone", desc := "(LLeaningMarket$Market;)Z" } : Jvm.MethodName)) ∈ lw_all := lw_g (lw_at lw_m6 196 rfl) rfl
theorem q1491 : (Jvm.Cond.instanceMethod ({ cls := "LeaningMarket$Feeds", name := "isDone", desc := "(LLeaningMarket$Market;)Z" } : Jvm.MethodName)) ∈ lw_all := lw_g (lw_at lw_m6 197 rfl) rfl
theorem q1492 : (Jvm.Cond.code ({ cls := "LeaningMarket$Feeds", name := "isDone", desc := "(LLeaningMarket$Market;)Z" } : Jvm.MethodName) prog_8_method_2_code (2 : Nat) (Option.some Jvm.ClassFile.FieldType.boolean)) ∈ lw_all := lw_g (lw_at lw_m6 198 rfl) rfl
theorem q1493 : (Jvm.Cond.methodLink "LeaningMarket$Feeds" (16 : Nat) ({ cls := "LeaningMarket$Market", name := "feeds", desc := "(II)Z" } : Jvm.MethodName)) ∈ lw_all := lw_g (lw_at lw_m6 199 rfl) rfl
theorem q1620 : (Jvm.Cond.selects "LeaningMarket$Feeds" ({ cls := "LeaningMarket$Step", name := "goes", desc := "(LLeaningMarket$Market;)V" } : Jvm.MethodName) ({ cls := "LeaningMarket$Act", name := "goes", desc := "(LLeaningMarket$Market;)V" } : Jvm.MethodName)) ∈ lw_all := lw_g (lw_at lw_m7 86 rfl) rfl
theorem q2562 : (Jvm.Cond.castable "LeaningMarket$Feeds" "LeaningMarket$Step") ∈ lw_tbl := lw_at lw_m11 68 rfl
theorem q2592 : (Jvm.Cond.castable "LeaningMarket$Feeds" "java/lang/Object") ∈ lw_tbl := lw_at lw_m11 98 rfl
theorem in_X27 : ∀ w ∈ wsX270, w ∈ lw_all := lw_in wsX270 [1419, 1421] (by decide +kernel) (by decide +kernel)

/-! LeaningMarket$Turns -/
set_option maxRecDepth 100000
def RX28 : String := "LeaningMarket$Turns"
abbrev cX28_init : ByteArray := prog_26_method_1_code
def yX28_init : MethodName := ⟨RX28, "<init>", "()V"⟩
abbrev cX28_isDone : ByteArray := prog_26_method_2_code
def yX28_isDone : MethodName := ⟨RX28, "isDone", "(LLeaningMarket$Market;)Z"⟩
theorem q142 : (Jvm.Cond.initialized "LeaningMarket$Turns") ∈ lw_all := lw_g (lw_at lw_m1 48 rfl) rfl
theorem q710 : (Jvm.Cond.selects "LeaningMarket$Turns" ({ cls := "java/lang/Object", name := "getClass", desc := "()Ljava/lang/Class;" } : Jvm.MethodName) ({ cls := "java/lang/Object", name := "getClass", desc := "()Ljava/lang/Class;" } : Jvm.MethodName)) ∈ lw_all := lw_g (lw_at lw_m3 136 rfl) rfl
theorem q1425 : (Jvm.Cond.instantiable "LeaningMarket$Turns" (0 : Nat)) ∈ lw_all := lw_g (lw_at lw_m6 131 rfl) rfl
theorem q1427 : (Jvm.Cond.instanceMethod ({ cls := "LeaningMarket$Turns", name := "<init>", desc := "()V" } : Jvm.MethodName)) ∈ lw_all := lw_g (lw_at lw_m6 133 rfl) rfl
theorem q1428 : (Jvm.Cond.code ({ cls := "LeaningMarket$Turns", name := "<init>", desc := "()V" } : Jvm.MethodName) prog_26_method_1_code (1 : Nat) (Option.none : Option Jvm.ClassFile.FieldType)) ∈ lw_all := lw_g (lw_at lw_m6 134 rfl) rfl
theorem q1429 : (Jvm.Cond.methodLinkNest "LeaningMarket$Turns" (1 : Nat) ({ cls := "LeaningMarket$Act", name := "<init>", desc := "()V" } : Jvm.MethodName) "LeaningMarket") ∈ lw_tbl := lw_at lw_m6 135 rfl
theorem q1430 : (Jvm.Cond.superclass "LeaningMarket$Turns" "LeaningMarket$Act") ∈ lw_all := lw_g (lw_at lw_m6 136 rfl) rfl
theorem q1590 : (Jvm.Cond.selects "LeaningMarket$Turns" ({ cls := "LeaningMarket$Act", name := "isDone", desc := "(LLeaningMarket$Market;)Z" } : Jvm.MethodName) ({ cls := "LeaningMarket$Turns", name := "isDone", desc := "(LLeaningMarket$Market;)Z" } : Jvm.MethodName)) ∈ lw_all := lw_g (lw_at lw_m7 56 rfl) rfl
theorem q1591 : (Jvm.Cond.instanceMethod ({ cls := "LeaningMarket$Turns", name := "isDone", desc := "(LLeaningMarket$Market;)Z" } : Jvm.MethodName)) ∈ lw_all := lw_g (lw_at lw_m7 57 rfl) rfl
theorem q1592 : (Jvm.Cond.code ({ cls := "LeaningMarket$Turns", name := "isDone", desc := "(LLeaningMarket$Market;)Z" } : Jvm.MethodName) prog_26_method_2_code (2 : Nat) (Option.some Jvm.ClassFile.FieldType.boolean)) ∈ lw_all := lw_g (lw_at lw_m7 58 rfl) rfl
theorem q1593 : (Jvm.Cond.methodLink "LeaningMarket$Turns" (7 : Nat) ({ cls := "LeaningMarket$Market", name := "turns", desc := "()Z" } : Jvm.MethodName)) ∈ lw_all := lw_g (lw_at lw_m7 59 rfl) rfl
theorem q1623 : (Jvm.Cond.selects "LeaningMarket$Turns" ({ cls := "LeaningMarket$Step", name := "goes", desc := "(LLeaningMarket$Market;)V" } : Jvm.MethodName) ({ cls := "LeaningMarket$Act", name := "goes", desc := "(LLeaningMarket$Market;)V" } : Jvm.MethodName)) ∈ lw_all := lw_g (lw_at lw_m7 89 rfl) rfl
theorem q2565 : (Jvm.Cond.castable "LeaningMarket$Turns" "LeaningMarket$Step") ∈ lw_tbl := lw_at lw_m11 71 rfl
theorem q2593 : (Jvm.Cond.castable "LeaningMarket$Turns" "java/lang/Object") ∈ lw_tbl := lw_at lw_m11 99 rfl

/-! LeaningMarket$Passes -/
set_option maxRecDepth 100000
def RX29 : String := "LeaningMarket$Passes"
abbrev cX29_init : ByteArray := prog_17_method_1_code
def yX29_init : MethodName := ⟨RX29, "<init>", "()V"⟩
abbrev cX29_isDone : ByteArray := prog_17_method_2_code
def yX29_isDone : MethodName := ⟨RX29, "isDone", "(LLeaningMarket$Market;)Z"⟩
theorem q143 : (Jvm.Cond.initialized "LeaningMarket$Passes") ∈ lw_all := lw_g (lw_at lw_m1 49 rfl) rfl
theorem q704 : (Jvm.Cond.selects "LeaningMarket$Passes" ({ cls := "java/lang/Object", name := "getClass", desc := "()Ljava/lang/Class;" } : Jvm.MethodName) ({ cls := "java/lang/Object", name := "getClass", desc := "()Ljava/lang/Class;" } : Jvm.MethodName)) ∈ lw_all := lw_g (lw_at lw_m3 130 rfl) rfl
theorem q1432 : (Jvm.Cond.instantiable "LeaningMarket$Passes" (0 : Nat)) ∈ lw_all := lw_g (lw_at lw_m6 138 rfl) rfl
theorem q1434 : (Jvm.Cond.instanceMethod ({ cls := "LeaningMarket$Passes", name := "<init>", desc := "()V" } : Jvm.MethodName)) ∈ lw_all := lw_g (lw_at lw_m6 140 rfl) rfl
theorem q1435 : (Jvm.Cond.code ({ cls := "LeaningMarket$Passes", name := "<init>", desc := "()V" } : Jvm.MethodName) prog_17_method_1_code (1 : Nat) (Option.none : Option Jvm.ClassFile.FieldType)) ∈ lw_all := lw_g (lw_at lw_m6 141 rfl) rfl
theorem q1436 : (Jvm.Cond.methodLinkNest "LeaningMarket$Passes" (1 : Nat) ({ cls := "LeaningMarket$Act", name := "<init>", desc := "()V" } : Jvm.MethodName) "LeaningMarket") ∈ lw_tbl := lw_at lw_m6 142 rfl
theorem q1437 : (Jvm.Cond.superclass "LeaningMarket$Passes" "LeaningMarket$Act") ∈ lw_all := lw_g (lw_at lw_m6 143 rfl) rfl
theorem q1498 : (Jvm.Cond.selects "LeaningMarket$Passes" ({ cls := "LeaningMarket$Act", name := "isDone", desc := "(LLeaningMarket$Market;)Z" } : Jvm.MethodName) ({ cls := "LeaningMarket$Passes", name := "isDone", desc := "(LLeaningMarket$Market;)Z" } : Jvm.MethodName)) ∈ lw_all := lw_g (lw_at lw_m6 204 rfl) rfl
theorem q1499 : (Jvm.Cond.instanceMethod ({ cls := "LeaningMarket$Passes", name := "isDone", desc := "(LLeaningMarket$Market;)Z" } : Jvm.MethodName)) ∈ lw_all := lw_g (lw_at lw_m6 205 rfl) rfl
theorem q1500 : (Jvm.Cond.code ({ cls := "LeaningMarket$Passes", name := "isDone", desc := "(LLeaningMarket$Market;)Z" } : Jvm.MethodName) prog_17_method_2_code (2 : Nat) (Option.some Jvm.ClassFile.FieldType.boolean)) ∈ lw_all := lw_g (lw_at lw_m6 206 rfl) rfl
theorem q1501 : (Jvm.Cond.methodLink "LeaningMarket$Passes" (7 : Nat) ({ cls := "LeaningMarket$Market", name := "day", desc := "()Z" } : Jvm.MethodName)) ∈ lw_all := lw_g (lw_at lw_m6 207 rfl) rfl
theorem q1621 : (Jvm.Cond.selects "LeaningMarket$Passes" ({ cls := "LeaningMarket$Step", name := "goes", desc := "(LLeaningMarket$Market;)V" } : Jvm.MethodName) ({ cls := "LeaningMarket$Act", name := "goes", desc := "(LLeaningMarket$Market;)V" } : Jvm.MethodName)) ∈ lw_all := lw_g (lw_at lw_m7 87 rfl) rfl
theorem q2563 : (Jvm.Cond.castable "LeaningMarket$Passes" "LeaningMarket$Step") ∈ lw_tbl := lw_at lw_m11 69 rfl
theorem q2594 : (Jvm.Cond.castable "LeaningMarket$Passes" "java/lang/Object") ∈ lw_tbl := lw_at lw_m11 100 rfl

/-! LeaningMarket$Again -/
set_option maxRecDepth 100000
def RX30 : String := "LeaningMarket$Again"
def TX30 : u_T := fun k => match k with
  | 0 => ("LeaningMarket$Again", "times", "I", true)
  | _ => ("LeaningMarket$Again", "steps", "Ljava/util/ArrayList;", true)
def tyX30 : Nat → FieldType := fun k => match k with
  | 0 => .int
  | _ => .object "java/util/ArrayList"
abbrev wsX300 : List Cond := u_ws RX30 TX30 2
theorem nmX30 : ∀ a, a < 2 → ∀ b, b < 2 → a ≠ b → (TX30 a).2.1 ≠ (TX30 b).2.1 := by decide +kernel
theorem tyX30_ok : ∀ k, k < 2 → parseFieldDescriptor (TX30 k).2.2.1 = some (tyX30 k) := by decide +kernel
abbrev cX30_init : ByteArray := prog_3_method_1_code
def yX30_init : MethodName := ⟨RX30, "<init>", "(I)V"⟩
abbrev cX30_goes : ByteArray := prog_3_method_2_code
def yX30_goes : MethodName := ⟨RX30, "goes", "(LLeaningMarket$Market;)V"⟩
theorem q144 : (Jvm.Cond.initialized "LeaningMarket$Again") ∈ lw_all := lw_g (lw_at lw_m1 50 rfl) rfl
theorem q597 : (Jvm.Cond.fieldLinkNest "LeaningMarket$Again" (28 : Nat) "LeaningMarket$Market" "steps" "I" "LeaningMarket") ∈ lw_tbl := lw_at lw_m3 23 rfl
theorem q691 : (Jvm.Cond.selects "LeaningMarket$Again" ({ cls := "java/lang/Object", name := "getClass", desc := "()Ljava/lang/Class;" } : Jvm.MethodName) ({ cls := "java/lang/Object", name := "getClass", desc := "()Ljava/lang/Class;" } : Jvm.MethodName)) ∈ lw_all := lw_g (lw_at lw_m3 117 rfl) rfl
theorem q1446 : (Jvm.Cond.instantiable "LeaningMarket$Again" (2 : Nat)) ∈ lw_all := lw_g (lw_at lw_m6 152 rfl) rfl
theorem q1448 : (Jvm.Cond.instanceMethod ({ cls := "LeaningMarket$Again", name := "<init>", desc := "(I)V" } : Jvm.MethodName)) ∈ lw_all := lw_g (lw_at lw_m6 154 rfl) rfl
theorem q1449 : (Jvm.Cond.code ({ cls := "LeaningMarket$Again", name := "<init>", desc := "(I)V" } : Jvm.MethodName) prog_3_method_1_code (2 : Nat) (Option.none : Option Jvm.ClassFile.FieldType)) ∈ lw_all := lw_g (lw_at lw_m6 155 rfl) rfl
theorem q1450 : (Jvm.Cond.methodLinkNest "LeaningMarket$Again" (3 : Nat) ({ cls := "LeaningMarket$Step", name := "<init>", desc := "()V" } : Jvm.MethodName) "LeaningMarket") ∈ lw_tbl := lw_at lw_m6 156 rfl
theorem q1451 : (Jvm.Cond.classLink "LeaningMarket$Again" (9 : Nat) "java/util/ArrayList") ∈ lw_all := lw_g (lw_at lw_m6 157 rfl) rfl
theorem q1452 : (Jvm.Cond.methodLink "LeaningMarket$Again" (11 : Nat) ({ cls := "java/util/ArrayList", name := "<init>", desc := "(I)V" } : Jvm.MethodName)) ∈ lw_all := lw_g (lw_at lw_m6 158 rfl) rfl
theorem q1453 : (Jvm.Cond.fieldLink "LeaningMarket$Again" (20 : Nat) "LeaningMarket$Again" "times" "I") ∈ lw_all := lw_g (lw_at lw_m6 159 rfl) rfl
theorem q1454 : (Jvm.Cond.fieldLink "LeaningMarket$Again" (14 : Nat) "LeaningMarket$Again" "steps" "Ljava/util/ArrayList;") ∈ lw_all := lw_g (lw_at lw_m6 160 rfl) rfl
theorem q1456 : (Jvm.Cond.laysFinal "LeaningMarket$Again" "LeaningMarket$Again" "times" "I") ∈ lw_all := lw_g (lw_at lw_m6 162 rfl) rfl
theorem q1457 : (Jvm.Cond.soleField "LeaningMarket$Again" "times") ∈ lw_all := lw_g (lw_at lw_m6 163 rfl) rfl
theorem q1458 : (Jvm.Cond.laysFinal "LeaningMarket$Again" "LeaningMarket$Again" "steps" "Ljava/util/ArrayList;") ∈ lw_all := lw_g (lw_at lw_m6 164 rfl) rfl
theorem q1459 : (Jvm.Cond.soleField "LeaningMarket$Again" "steps") ∈ lw_all := lw_g (lw_at lw_m6 165 rfl) rfl
theorem q1460 : (Jvm.Cond.superclass "LeaningMarket$Again" "LeaningMarket$Step") ∈ lw_all := lw_g (lw_at lw_m6 166 rfl) rfl
theorem q1472 : (Jvm.Cond.selects "LeaningMarket$Again" ({ cls := "LeaningMarket$Step", name := "goes", desc := "(LLeaningMarket$Market;)V" } : Jvm.MethodName) ({ cls := "LeaningMarket$Again", name := "goes", desc := "(LLeaningMarket$Market;)V" } : Jvm.MethodName)) ∈ lw_all := lw_g (lw_at lw_m6 178 rfl) rfl
theorem q1473 : (Jvm.Cond.instanceMethod ({ cls := "LeaningMarket$Again", name := "goes", desc := "(LLeaningMarket$Market;)V" } : Jvm.MethodName)) ∈ lw_all := lw_g (lw_at lw_m6 179 rfl) rfl
theorem q1474 : (Jvm.Cond.code ({ cls := "LeaningMarket$Again", name := "goes", desc := "(LLeaningMarket$Market;)V" } : Jvm.MethodName) prog_3_method_2_code (4 : Nat) (Option.none : Option Jvm.ClassFile.FieldType)) ∈ lw_all := lw_g (lw_at lw_m6 180 rfl) rfl
theorem q1475 : (Jvm.Cond.methodLink "LeaningMarket$Again" (24 : Nat) ({ cls := "LeaningMarket$Again", name := "may", desc := "(LLeaningMarket$Market;)Z" } : Jvm.MethodName)) ∈ lw_all := lw_g (lw_at lw_m6 181 rfl) rfl
theorem q1476 : (Jvm.Cond.sameMethod "LeaningMarket$Again" "LeaningMarket$Step" "may" "(LLeaningMarket$Market;)Z") ∈ lw_all := lw_g (lw_at lw_m6 182 rfl) rfl
theorem q1479 : (Jvm.Cond.methodLink "LeaningMarket$Again" (32 : Nat) ({ cls := "java/util/ArrayList", name := "size", desc := "()I" } : Jvm.MethodName)) ∈ lw_all := lw_g (lw_at lw_m6 185 rfl) rfl
theorem q1480 : (Jvm.Cond.methodLink "LeaningMarket$Again" (36 : Nat) ({ cls := "java/util/ArrayList", name := "get", desc := "(I)Ljava/lang/Object;" } : Jvm.MethodName)) ∈ lw_all := lw_g (lw_at lw_m6 186 rfl) rfl
theorem q1481 : (Jvm.Cond.classLink "LeaningMarket$Again" (4 : Nat) "LeaningMarket$Step") ∈ lw_all := lw_g (lw_at lw_m6 187 rfl) rfl
theorem q1482 : (Jvm.Cond.methodLink "LeaningMarket$Again" (40 : Nat) ({ cls := "LeaningMarket$Step", name := "goes", desc := "(LLeaningMarket$Market;)V" } : Jvm.MethodName)) ∈ lw_all := lw_g (lw_at lw_m6 188 rfl) rfl
theorem q2561 : (Jvm.Cond.castable "LeaningMarket$Again" "LeaningMarket$Step") ∈ lw_tbl := lw_at lw_m11 67 rfl
theorem q2595 : (Jvm.Cond.castable "LeaningMarket$Again" "java/lang/Object") ∈ lw_tbl := lw_at lw_m11 101 rfl
theorem in_X30 : ∀ w ∈ wsX300, w ∈ lw_all := lw_in wsX300 [1456, 1458] (by decide +kernel) (by decide +kernel)

/-! LeaningMarket$BookReader -/
set_option maxRecDepth 100000
def RX31 : String := "LeaningMarket$BookReader"
def TX31 : u_T := fun k => match k with
  | 0 => ("LeaningMarket$Reader", "text", "[B", true)
  | 1 => ("LeaningMarket$Reader", "size", "I", true)
  | 2 => ("LeaningMarket$Reader", "next", "I", false)
  | 3 => ("LeaningMarket$Reader", "from", "I", false)
  | 4 => ("LeaningMarket$Reader", "open", "I", false)
  | 5 => ("LeaningMarket$BookReader", "things", "I", true)
  | 6 => ("LeaningMarket$BookReader", "read", "[I", true)
  | _ => ("LeaningMarket$BookReader", "many", "I", false)
def tyX31 : Nat → FieldType := fun k => match k with
  | 0 => .array .byte
  | 1 => .int
  | 2 => .int
  | 3 => .int
  | 4 => .int
  | 5 => .int
  | 6 => .array .int
  | _ => .int
abbrev wsX310 : List Cond := u_ws RX31 TX31 8
theorem nmX31 : ∀ a, a < 8 → ∀ b, b < 8 → a ≠ b → (TX31 a).2.1 ≠ (TX31 b).2.1 := by decide +kernel
theorem tyX31_ok : ∀ k, k < 8 → parseFieldDescriptor (TX31 k).2.2.1 = some (tyX31 k) := by decide +kernel
abbrev cX31_init : ByteArray := prog_4_method_1_code
def yX31_init : MethodName := ⟨RX31, "<init>", "([BII)V"⟩
abbrev cX31_reads : ByteArray := prog_4_method_2_code
def yX31_reads : MethodName := ⟨RX31, "reads", "()[I"⟩
theorem q145 : (Jvm.Cond.initialized "LeaningMarket$BookReader") ∈ lw_all := lw_g (lw_at lw_m1 51 rfl) rfl
theorem q692 : (Jvm.Cond.selects "LeaningMarket$BookReader" ({ cls := "java/lang/Object", name := "getClass", desc := "()Ljava/lang/Class;" } : Jvm.MethodName) ({ cls := "java/lang/Object", name := "getClass", desc := "()Ljava/lang/Class;" } : Jvm.MethodName)) ∈ lw_all := lw_g (lw_at lw_m3 118 rfl) rfl
theorem q924 : (Jvm.Cond.fieldLink "LeaningMarket$BookReader" (26 : Nat) "LeaningMarket$BookReader" "size" "I") ∈ lw_all := lw_g (lw_at lw_m4 110 rfl) rfl
theorem q925 : (Jvm.Cond.sameField "LeaningMarket$BookReader" "LeaningMarket$Reader" "size" "I") ∈ lw_all := lw_g (lw_at lw_m4 111 rfl) rfl
theorem q933 : (Jvm.Cond.fieldLink "LeaningMarket$BookReader" (23 : Nat) "LeaningMarket$BookReader" "next" "I") ∈ lw_all := lw_g (lw_at lw_m4 119 rfl) rfl
theorem q934 : (Jvm.Cond.sameField "LeaningMarket$BookReader" "LeaningMarket$Reader" "next" "I") ∈ lw_all := lw_g (lw_at lw_m4 120 rfl) rfl
theorem q939 : (Jvm.Cond.fieldLink "LeaningMarket$BookReader" (38 : Nat) "LeaningMarket$BookReader" "from" "I") ∈ lw_all := lw_g (lw_at lw_m4 125 rfl) rfl
theorem q940 : (Jvm.Cond.sameField "LeaningMarket$BookReader" "LeaningMarket$Reader" "from" "I") ∈ lw_all := lw_g (lw_at lw_m4 126 rfl) rfl
theorem q1138 : (Jvm.Cond.selects "LeaningMarket$BookReader" ({ cls := "LeaningMarket$PanReader", name := "number", desc := "(II)I" } : Jvm.MethodName) ({ cls := "LeaningMarket$Reader", name := "number", desc := "(II)I" } : Jvm.MethodName)) ∈ lw_all := lw_g (lw_at lw_m5 84 rfl) rfl
theorem q1144 : (Jvm.Cond.selects "LeaningMarket$BookReader" ({ cls := "LeaningMarket$PanReader", name := "other", desc := "(II)I" } : Jvm.MethodName) ({ cls := "LeaningMarket$PanReader", name := "other", desc := "(II)I" } : Jvm.MethodName)) ∈ lw_all := lw_g (lw_at lw_m5 90 rfl) rfl
theorem q1633 : (Jvm.Cond.instantiable "LeaningMarket$BookReader" (8 : Nat)) ∈ lw_all := lw_g (lw_at lw_m7 99 rfl) rfl
theorem q1635 : (Jvm.Cond.instanceMethod ({ cls := "LeaningMarket$BookReader", name := "<init>", desc := "([BII)V" } : Jvm.MethodName)) ∈ lw_all := lw_g (lw_at lw_m7 101 rfl) rfl
theorem q1636 : (Jvm.Cond.code ({ cls := "LeaningMarket$BookReader", name := "<init>", desc := "([BII)V" } : Jvm.MethodName) prog_4_method_1_code (4 : Nat) (Option.none : Option Jvm.ClassFile.FieldType)) ∈ lw_all := lw_g (lw_at lw_m7 102 rfl) rfl
theorem q1637 : (Jvm.Cond.methodLink "LeaningMarket$BookReader" (3 : Nat) ({ cls := "LeaningMarket$PanReader", name := "<init>", desc := "([BI)V" } : Jvm.MethodName)) ∈ lw_all := lw_g (lw_at lw_m7 103 rfl) rfl
theorem q1638 : (Jvm.Cond.fieldLink "LeaningMarket$BookReader" (15 : Nat) "LeaningMarket$BookReader" "things" "I") ∈ lw_all := lw_g (lw_at lw_m7 104 rfl) rfl
theorem q1639 : (Jvm.Cond.fieldLink "LeaningMarket$BookReader" (9 : Nat) "LeaningMarket$BookReader" "read" "[I") ∈ lw_all := lw_g (lw_at lw_m7 105 rfl) rfl
theorem q1640 : (Jvm.Cond.fieldLink "LeaningMarket$BookReader" (33 : Nat) "LeaningMarket$BookReader" "many" "I") ∈ lw_all := lw_g (lw_at lw_m7 106 rfl) rfl
theorem q1642 : (Jvm.Cond.laysFinal "LeaningMarket$BookReader" "LeaningMarket$BookReader" "things" "I") ∈ lw_all := lw_g (lw_at lw_m7 108 rfl) rfl
theorem q1643 : (Jvm.Cond.soleField "LeaningMarket$BookReader" "things") ∈ lw_all := lw_g (lw_at lw_m7 109 rfl) rfl
theorem q1644 : (Jvm.Cond.laysFinal "LeaningMarket$BookReader" "LeaningMarket$BookReader" "read" "[I") ∈ lw_all := lw_g (lw_at lw_m7 110 rfl) rfl
theorem q1645 : (Jvm.Cond.soleField "LeaningMarket$BookReader" "read") ∈ lw_all := lw_g (lw_at lw_m7 111 rfl) rfl
theorem q1646 : (Jvm.Cond.lays "LeaningMarket$BookReader" "LeaningMarket$BookReader" "many" "I") ∈ lw_all := lw_g (lw_at lw_m7 112 rfl) rfl
theorem q1647 : (Jvm.Cond.soleField "LeaningMarket$BookReader" "many") ∈ lw_all := lw_g (lw_at lw_m7 113 rfl) rfl
theorem q1648 : (Jvm.Cond.laysFinal "LeaningMarket$BookReader" "LeaningMarket$Reader" "text" "[B") ∈ lw_all := lw_g (lw_at lw_m7 114 rfl) rfl
theorem q1649 : (Jvm.Cond.laysFinal "LeaningMarket$BookReader" "LeaningMarket$Reader" "size" "I") ∈ lw_all := lw_g (lw_at lw_m7 115 rfl) rfl
theorem q1650 : (Jvm.Cond.lays "LeaningMarket$BookReader" "LeaningMarket$Reader" "next" "I") ∈ lw_all := lw_g (lw_at lw_m7 116 rfl) rfl
theorem q1651 : (Jvm.Cond.lays "LeaningMarket$BookReader" "LeaningMarket$Reader" "from" "I") ∈ lw_all := lw_g (lw_at lw_m7 117 rfl) rfl
theorem q1652 : (Jvm.Cond.lays "LeaningMarket$BookReader" "LeaningMarket$Reader" "open" "I") ∈ lw_all := lw_g (lw_at lw_m7 118 rfl) rfl
theorem q1653 : (Jvm.Cond.superclass "LeaningMarket$BookReader" "LeaningMarket$PanReader") ∈ lw_all := lw_g (lw_at lw_m7 119 rfl) rfl
theorem q1655 : (Jvm.Cond.instanceMethod ({ cls := "LeaningMarket$BookReader", name := "reads", desc := "()[I" } : Jvm.MethodName)) ∈ lw_all := lw_g (lw_at lw_m7 121 rfl) rfl
theorem q1656 : (Jvm.Cond.selects "LeaningMarket$BookReader" ({ cls := "LeaningMarket$BookReader", name := "reads", desc := "()[I" } : Jvm.MethodName) ({ cls := "LeaningMarket$BookReader", name := "reads", desc := "()[I" } : Jvm.MethodName)) ∈ lw_all := lw_g (lw_at lw_m7 122 rfl) rfl
theorem q1657 : (Jvm.Cond.code ({ cls := "LeaningMarket$BookReader", name := "reads", desc := "()[I" } : Jvm.MethodName) prog_4_method_2_code (2 : Nat) (Option.some (Jvm.ClassFile.FieldType.array Jvm.ClassFile.FieldType.int))) ∈ lw_all := lw_g (lw_at lw_m7 123 rfl) rfl
theorem q1658 : (Jvm.Cond.methodLink "LeaningMarket$BookReader" (19 : Nat) ({ cls := "LeaningMarket$BookReader", name := "sign", desc := "()I" } : Jvm.MethodName)) ∈ lw_all := lw_g (lw_at lw_m7 124 rfl) rfl
theorem q1659 : (Jvm.Cond.sameMethod "LeaningMarket$BookReader" "LeaningMarket$Reader" "sign" "()I") ∈ lw_all := lw_g (lw_at lw_m7 125 rfl) rfl
theorem q1660 : (Jvm.Cond.selects "LeaningMarket$BookReader" ({ cls := "LeaningMarket$BookReader", name := "sign", desc := "()I" } : Jvm.MethodName) ({ cls := "LeaningMarket$Reader", name := "sign", desc := "()I" } : Jvm.MethodName)) ∈ lw_all := lw_g (lw_at lw_m7 126 rfl) rfl
theorem q1661 : (Jvm.Cond.methodLink "LeaningMarket$BookReader" (29 : Nat) ({ cls := "LeaningMarket$BookReader", name := "number", desc := "(II)I" } : Jvm.MethodName)) ∈ lw_all := lw_g (lw_at lw_m7 127 rfl) rfl
theorem q1662 : (Jvm.Cond.sameMethod "LeaningMarket$BookReader" "LeaningMarket$Reader" "number" "(II)I") ∈ lw_all := lw_g (lw_at lw_m7 128 rfl) rfl
theorem q1663 : (Jvm.Cond.selects "LeaningMarket$BookReader" ({ cls := "LeaningMarket$BookReader", name := "number", desc := "(II)I" } : Jvm.MethodName) ({ cls := "LeaningMarket$Reader", name := "number", desc := "(II)I" } : Jvm.MethodName)) ∈ lw_all := lw_g (lw_at lw_m7 129 rfl) rfl
theorem q1664 : (Jvm.Cond.classLink "LeaningMarket$BookReader" (36 : Nat) "LeaningMarket$Wrong") ∈ lw_all := lw_g (lw_at lw_m7 130 rfl) rfl
theorem q1665 : (Jvm.Cond.methodLink "LeaningMarket$BookReader" (41 : Nat) ({ cls := "LeaningMarket$Wrong", name := "<init>", desc := "(II)V" } : Jvm.MethodName)) ∈ lw_all := lw_g (lw_at lw_m7 131 rfl) rfl
theorem q1666 : (Jvm.Cond.methodLink "LeaningMarket$BookReader" (44 : Nat) ({ cls := "LeaningMarket$BookReader", name := "other", desc := "(II)I" } : Jvm.MethodName)) ∈ lw_all := lw_g (lw_at lw_m7 132 rfl) rfl
theorem q1667 : (Jvm.Cond.sameMethod "LeaningMarket$BookReader" "LeaningMarket$PanReader" "other" "(II)I") ∈ lw_all := lw_g (lw_at lw_m7 133 rfl) rfl
theorem q1669 : (Jvm.Cond.selects "LeaningMarket$BookReader" ({ cls := "LeaningMarket$BookReader", name := "other", desc := "(II)I" } : Jvm.MethodName) ({ cls := "LeaningMarket$PanReader", name := "other", desc := "(II)I" } : Jvm.MethodName)) ∈ lw_all := lw_g (lw_at lw_m7 135 rfl) rfl
theorem q1670 : (Jvm.Cond.methodLink "LeaningMarket$BookReader" (47 : Nat) ({ cls := "LeaningMarket$BookReader", name := "need", desc := "(I)V" } : Jvm.MethodName)) ∈ lw_all := lw_g (lw_at lw_m7 136 rfl) rfl
theorem q1671 : (Jvm.Cond.sameMethod "LeaningMarket$BookReader" "LeaningMarket$Reader" "need" "(I)V") ∈ lw_all := lw_g (lw_at lw_m7 137 rfl) rfl
theorem q1672 : (Jvm.Cond.selects "LeaningMarket$BookReader" ({ cls := "LeaningMarket$BookReader", name := "need", desc := "(I)V" } : Jvm.MethodName) ({ cls := "LeaningMarket$Reader", name := "need", desc := "(I)V" } : Jvm.MethodName)) ∈ lw_all := lw_g (lw_at lw_m7 138 rfl) rfl
theorem q2549 : (Jvm.Cond.selects "LeaningMarket$BookReader" ({ cls := "LeaningMarket$Reader", name := "sign", desc := "()I" } : Jvm.MethodName) ({ cls := "LeaningMarket$Reader", name := "sign", desc := "()I" } : Jvm.MethodName)) ∈ lw_all := lw_g (lw_at lw_m11 55 rfl) rfl
theorem q2556 : (Jvm.Cond.selects "LeaningMarket$BookReader" ({ cls := "LeaningMarket$Reader", name := "wrong", desc := "()LLeaningMarket$Wrong;" } : Jvm.MethodName) ({ cls := "LeaningMarket$Reader", name := "wrong", desc := "()LLeaningMarket$Wrong;" } : Jvm.MethodName)) ∈ lw_all := lw_g (lw_at lw_m11 62 rfl) rfl
theorem q2596 : (Jvm.Cond.castable "LeaningMarket$BookReader" "java/lang/Object") ∈ lw_tbl := lw_at lw_m11 102 rfl
theorem in_X31 : ∀ w ∈ wsX310, w ∈ lw_all := lw_in wsX310 [1648, 1649, 1650, 1651, 1652, 1642, 1644, 1646] (by decide +kernel) (by decide +kernel)

/-! java/util/AbstractCollection -/
set_option maxRecDepth 100000
def RJ0 : String := "java/util/AbstractCollection"
abbrev cJ0_init : ByteArray := prog_55_method_1_code
def yJ0_init : MethodName := ⟨RJ0, "<init>", "()V"⟩
theorem q97 : (Jvm.Cond.initialized "java/util/AbstractCollection") ∈ lw_all := lw_g (lw_at lw_m1 3 rfl) rfl
theorem q170 : (Jvm.Cond.instanceMethod ({ cls := "java/util/AbstractCollection", name := "<init>", desc := "()V" } : Jvm.MethodName)) ∈ lw_all := lw_g (lw_at lw_m1 76 rfl) rfl
theorem q171 : (Jvm.Cond.code ({ cls := "java/util/AbstractCollection", name := "<init>", desc := "()V" } : Jvm.MethodName) prog_55_method_1_code (1 : Nat) (Option.none : Option Jvm.ClassFile.FieldType)) ∈ lw_all := lw_g (lw_at lw_m1 77 rfl) rfl
theorem q172 : (Jvm.Cond.methodLink "java/util/AbstractCollection" (1 : Nat) ({ cls := "java/lang/Object", name := "<init>", desc := "()V" } : Jvm.MethodName)) ∈ lw_all := lw_g (lw_at lw_m1 78 rfl) rfl

/-! java/util/AbstractList -/
set_option maxRecDepth 100000
def RJ1 : String := "java/util/AbstractList"
abbrev cJ1_init : ByteArray := prog_56_method_1_code
def yJ1_init : MethodName := ⟨RJ1, "<init>", "()V"⟩
theorem q98 : (Jvm.Cond.initialized "java/util/AbstractList") ∈ lw_all := lw_g (lw_at lw_m1 4 rfl) rfl
theorem q167 : (Jvm.Cond.instanceMethod ({ cls := "java/util/AbstractList", name := "<init>", desc := "()V" } : Jvm.MethodName)) ∈ lw_all := lw_g (lw_at lw_m1 73 rfl) rfl
theorem q168 : (Jvm.Cond.code ({ cls := "java/util/AbstractList", name := "<init>", desc := "()V" } : Jvm.MethodName) prog_56_method_1_code (1 : Nat) (Option.none : Option Jvm.ClassFile.FieldType)) ∈ lw_all := lw_g (lw_at lw_m1 74 rfl) rfl
theorem q169 : (Jvm.Cond.methodLink "java/util/AbstractList" (1 : Nat) ({ cls := "java/util/AbstractCollection", name := "<init>", desc := "()V" } : Jvm.MethodName)) ∈ lw_all := lw_g (lw_at lw_m1 75 rfl) rfl
theorem q494 : (Jvm.Cond.fieldLink "java/util/AbstractList" (7 : Nat) "java/util/AbstractList" "modCount" "I") ∈ lw_all := lw_g (lw_at lw_m2 160 rfl) rfl
theorem q502 : (Jvm.Cond.soleField "java/util/AbstractList" "modCount") ∈ lw_all := lw_g (lw_at lw_m2 168 rfl) rfl

/-! java/util/ArrayList -/
set_option maxRecDepth 100000
def RJ2 : String := "java/util/ArrayList"
def TJ2 : u_T := fun k => match k with
  | 0 => ("java/util/AbstractList", "modCount", "I", false)
  | 1 => ("java/util/ArrayList", "elementData", "[Ljava/lang/Object;", false)
  | _ => ("java/util/ArrayList", "size", "I", false)
def tyJ2 : Nat → FieldType := fun k => match k with
  | 0 => .int
  | 1 => .array (.object "java/lang/Object")
  | _ => .int
abbrev wsJ20 : List Cond := u_ws RJ2 TJ2 3
theorem nmJ2 : ∀ a, a < 3 → ∀ b, b < 3 → a ≠ b → (TJ2 a).2.1 ≠ (TJ2 b).2.1 := by decide +kernel
theorem tyJ2_ok : ∀ k, k < 3 → parseFieldDescriptor (TJ2 k).2.2.1 = some (tyJ2 k) := by decide +kernel
abbrev cJ2_init : ByteArray := prog_57_method_1_code
def yJ2_init : MethodName := ⟨RJ2, "<init>", "(I)V"⟩
abbrev cJ2_clear : ByteArray := prog_57_method_40_code
def yJ2_clear : MethodName := ⟨RJ2, "clear", "()V"⟩
abbrev cJ2_size : ByteArray := prog_57_method_8_code
def yJ2_size : MethodName := ⟨RJ2, "size", "()I"⟩
abbrev cJ2_get : ByteArray := prog_57_method_20_code
def yJ2_get : MethodName := ⟨RJ2, "get", "(I)Ljava/lang/Object;"⟩
abbrev cJ2_elementData : ByteArray := prog_57_method_18_code
def yJ2_elementData : MethodName := ⟨RJ2, "elementData", "(I)Ljava/lang/Object;"⟩
abbrev cJ2_add : ByteArray := prog_57_method_25_code
def yJ2_add : MethodName := ⟨RJ2, "add", "(Ljava/lang/Object;)Z"⟩
abbrev cJ2_add_2 : ByteArray := prog_57_method_24_code
def yJ2_add_2 : MethodName := ⟨RJ2, "add", "(Ljava/lang/Object;[Ljava/lang/Object;I)V"⟩
abbrev cJ2_grow : ByteArray := prog_57_method_7_code
def yJ2_grow : MethodName := ⟨RJ2, "grow", "()[Ljava/lang/Object;"⟩
abbrev cJ2_grow_2 : ByteArray := prog_57_method_6_code
def yJ2_grow_2 : MethodName := ⟨RJ2, "grow", "(I)[Ljava/lang/Object;"⟩
abbrev cJ2_remove : ByteArray := prog_57_method_29_code
def yJ2_remove : MethodName := ⟨RJ2, "remove", "(I)Ljava/lang/Object;"⟩
abbrev cJ2_fastRemove : ByteArray := prog_57_method_39_code
def yJ2_fastRemove : MethodName := ⟨RJ2, "fastRemove", "([Ljava/lang/Object;I)V"⟩
theorem q99 : (Jvm.Cond.initialized "java/util/ArrayList") ∈ lw_all := lw_g (lw_at lw_m1 5 rfl) rfl
theorem q162 : (Jvm.Cond.instantiable "java/util/ArrayList" (3 : Nat)) ∈ lw_all := lw_g (lw_at lw_m1 68 rfl) rfl
theorem q164 : (Jvm.Cond.instanceMethod ({ cls := "java/util/ArrayList", name := "<init>", desc := "(I)V" } : Jvm.MethodName)) ∈ lw_all := lw_g (lw_at lw_m1 70 rfl) rfl
theorem q165 : (Jvm.Cond.code ({ cls := "java/util/ArrayList", name := "<init>", desc := "(I)V" } : Jvm.MethodName) prog_57_method_1_code (2 : Nat) (Option.none : Option Jvm.ClassFile.FieldType)) ∈ lw_all := lw_g (lw_at lw_m1 71 rfl) rfl
theorem q166 : (Jvm.Cond.methodLink "java/util/ArrayList" (1 : Nat) ({ cls := "java/util/AbstractList", name := "<init>", desc := "()V" } : Jvm.MethodName)) ∈ lw_all := lw_g (lw_at lw_m1 72 rfl) rfl
theorem q173 : (Jvm.Cond.classLink "java/util/ArrayList" (7 : Nat) "java/lang/Object") ∈ lw_all := lw_g (lw_at lw_m1 79 rfl) rfl
theorem q175 : (Jvm.Cond.fieldLink "java/util/ArrayList" (15 : Nat) "java/util/ArrayList" "EMPTY_ELEMENTDATA" "[Ljava/lang/Object;") ∈ lw_all := lw_g (lw_at lw_m1 81 rfl) rfl
theorem q176 : (Jvm.Cond.laysStatic "java/util/ArrayList" "EMPTY_ELEMENTDATA" "[Ljava/lang/Object;") ∈ lw_tbl := lw_at lw_m1 82 rfl
theorem q177 : (Jvm.Cond.classLink "java/util/ArrayList" (18 : Nat) "java/lang/IllegalArgumentException") ∈ lw_all := lw_g (lw_at lw_m1 83 rfl) rfl
theorem q218 : (Jvm.Cond.classLink "java/util/ArrayList" (20 : Nat) "java/lang/StringBuilder") ∈ lw_all := lw_g (lw_at lw_m1 124 rfl) rfl
theorem q220 : (Jvm.Cond.methodLink "java/util/ArrayList" (22 : Nat) ({ cls := "java/lang/StringBuilder", name := "<init>", desc := "()V" } : Jvm.MethodName)) ∈ lw_all := lw_g (lw_at lw_m1 126 rfl) rfl
theorem q251 : (Jvm.Cond.stringRef "java/util/ArrayList" (23 : Nat) "Illegal Capacity: ") ∈ lw_tbl := lw_at lw_m1 157 rfl
theorem q252 : (Jvm.Cond.methodLink "java/util/ArrayList" (25 : Nat) ({ cls := "java/lang/StringBuilder", name := "append", desc := "(Ljava/lang/String;)Ljava/lang/StringBuilder;" } : Jvm.MethodName)) ∈ lw_all := lw_g (lw_at lw_m1 158 rfl) rfl
theorem q372 : (Jvm.Cond.methodLink "java/util/ArrayList" (29 : Nat) ({ cls := "java/lang/StringBuilder", name := "append", desc := "(I)Ljava/lang/StringBuilder;" } : Jvm.MethodName)) ∈ lw_all := lw_g (lw_at lw_m2 38 rfl) rfl
theorem q397 : (Jvm.Cond.methodLink "java/util/ArrayList" (32 : Nat) ({ cls := "java/lang/StringBuilder", name := "toString", desc := "()Ljava/lang/String;" } : Jvm.MethodName)) ∈ lw_all := lw_g (lw_at lw_m2 63 rfl) rfl
theorem q491 : (Jvm.Cond.methodLink "java/util/ArrayList" (36 : Nat) ({ cls := "java/lang/IllegalArgumentException", name := "<init>", desc := "(Ljava/lang/String;)V" } : Jvm.MethodName)) ∈ lw_all := lw_g (lw_at lw_m2 157 rfl) rfl
theorem q492 : (Jvm.Cond.fieldLink "java/util/ArrayList" (9 : Nat) "java/util/ArrayList" "elementData" "[Ljava/lang/Object;") ∈ lw_all := lw_g (lw_at lw_m2 158 rfl) rfl
theorem q493 : (Jvm.Cond.fieldLink "java/util/ArrayList" (48 : Nat) "java/util/ArrayList" "size" "I") ∈ lw_all := lw_g (lw_at lw_m2 159 rfl) rfl
theorem q495 : (Jvm.Cond.fieldLink "java/util/ArrayList" (63 : Nat) "java/util/ArrayList" "modCount" "I") ∈ lw_all := lw_g (lw_at lw_m2 161 rfl) rfl
theorem q496 : (Jvm.Cond.sameField "java/util/ArrayList" "java/util/AbstractList" "modCount" "I") ∈ lw_all := lw_g (lw_at lw_m2 162 rfl) rfl
theorem q497 : (Jvm.Cond.lays "java/util/ArrayList" "java/util/ArrayList" "elementData" "[Ljava/lang/Object;") ∈ lw_all := lw_g (lw_at lw_m2 163 rfl) rfl
theorem q498 : (Jvm.Cond.soleField "java/util/ArrayList" "elementData") ∈ lw_all := lw_g (lw_at lw_m2 164 rfl) rfl
theorem q499 : (Jvm.Cond.lays "java/util/ArrayList" "java/util/ArrayList" "size" "I") ∈ lw_all := lw_g (lw_at lw_m2 165 rfl) rfl
theorem q500 : (Jvm.Cond.soleField "java/util/ArrayList" "size") ∈ lw_all := lw_g (lw_at lw_m2 166 rfl) rfl
theorem q501 : (Jvm.Cond.lays "java/util/ArrayList" "java/util/AbstractList" "modCount" "I") ∈ lw_all := lw_g (lw_at lw_m2 167 rfl) rfl
theorem q503 : (Jvm.Cond.superclass "java/util/ArrayList" "java/util/AbstractList") ∈ lw_all := lw_g (lw_at lw_m2 169 rfl) rfl
theorem q643 : (Jvm.Cond.instanceMethod ({ cls := "java/util/ArrayList", name := "clear", desc := "()V" } : Jvm.MethodName)) ∈ lw_all := lw_g (lw_at lw_m3 69 rfl) rfl
theorem q644 : (Jvm.Cond.selects "java/util/ArrayList" ({ cls := "java/util/ArrayList", name := "clear", desc := "()V" } : Jvm.MethodName) ({ cls := "java/util/ArrayList", name := "clear", desc := "()V" } : Jvm.MethodName)) ∈ lw_all := lw_g (lw_at lw_m3 70 rfl) rfl
theorem q645 : (Jvm.Cond.code ({ cls := "java/util/ArrayList", name := "clear", desc := "()V" } : Jvm.MethodName) prog_57_method_40_code (4 : Nat) (Option.none : Option Jvm.ClassFile.FieldType)) ∈ lw_all := lw_g (lw_at lw_m3 71 rfl) rfl
theorem q647 : (Jvm.Cond.instanceMethod ({ cls := "java/util/ArrayList", name := "size", desc := "()I" } : Jvm.MethodName)) ∈ lw_all := lw_g (lw_at lw_m3 73 rfl) rfl
theorem q648 : (Jvm.Cond.selects "java/util/ArrayList" ({ cls := "java/util/ArrayList", name := "size", desc := "()I" } : Jvm.MethodName) ({ cls := "java/util/ArrayList", name := "size", desc := "()I" } : Jvm.MethodName)) ∈ lw_all := lw_g (lw_at lw_m3 74 rfl) rfl
theorem q649 : (Jvm.Cond.code ({ cls := "java/util/ArrayList", name := "size", desc := "()I" } : Jvm.MethodName) prog_57_method_8_code (1 : Nat) (Option.some Jvm.ClassFile.FieldType.int)) ∈ lw_all := lw_g (lw_at lw_m3 75 rfl) rfl
theorem q651 : (Jvm.Cond.instanceMethod ({ cls := "java/util/ArrayList", name := "get", desc := "(I)Ljava/lang/Object;" } : Jvm.MethodName)) ∈ lw_all := lw_g (lw_at lw_m3 77 rfl) rfl
theorem q652 : (Jvm.Cond.selects "java/util/ArrayList" ({ cls := "java/util/ArrayList", name := "get", desc := "(I)Ljava/lang/Object;" } : Jvm.MethodName) ({ cls := "java/util/ArrayList", name := "get", desc := "(I)Ljava/lang/Object;" } : Jvm.MethodName)) ∈ lw_all := lw_g (lw_at lw_m3 78 rfl) rfl
theorem q653 : (Jvm.Cond.code ({ cls := "java/util/ArrayList", name := "get", desc := "(I)Ljava/lang/Object;" } : Jvm.MethodName) prog_57_method_20_code (2 : Nat) (Option.some (Jvm.ClassFile.FieldType.object "java/lang/Object"))) ∈ lw_all := lw_g (lw_at lw_m3 79 rfl) rfl
theorem q654 : (Jvm.Cond.methodLink "java/util/ArrayList" (118 : Nat) ({ cls := "java/util/Objects", name := "checkIndex", desc := "(II)I" } : Jvm.MethodName)) ∈ lw_all := lw_g (lw_at lw_m3 80 rfl) rfl
theorem q660 : (Jvm.Cond.methodLink "java/util/ArrayList" (123 : Nat) ({ cls := "java/util/ArrayList", name := "elementData", desc := "(I)Ljava/lang/Object;" } : Jvm.MethodName)) ∈ lw_all := lw_g (lw_at lw_m3 86 rfl) rfl
theorem q661 : (Jvm.Cond.instanceMethod ({ cls := "java/util/ArrayList", name := "elementData", desc := "(I)Ljava/lang/Object;" } : Jvm.MethodName)) ∈ lw_all := lw_g (lw_at lw_m3 87 rfl) rfl
theorem q662 : (Jvm.Cond.selects "java/util/ArrayList" ({ cls := "java/util/ArrayList", name := "elementData", desc := "(I)Ljava/lang/Object;" } : Jvm.MethodName) ({ cls := "java/util/ArrayList", name := "elementData", desc := "(I)Ljava/lang/Object;" } : Jvm.MethodName)) ∈ lw_all := lw_g (lw_at lw_m3 88 rfl) rfl
theorem q663 : (Jvm.Cond.code ({ cls := "java/util/ArrayList", name := "elementData", desc := "(I)Ljava/lang/Object;" } : Jvm.MethodName) prog_57_method_18_code (2 : Nat) (Option.some (Jvm.ClassFile.FieldType.object "java/lang/Object"))) ∈ lw_all := lw_g (lw_at lw_m3 89 rfl) rfl
theorem q666 : (Jvm.Cond.instanceMethod ({ cls := "java/util/ArrayList", name := "add", desc := "(Ljava/lang/Object;)Z" } : Jvm.MethodName)) ∈ lw_all := lw_g (lw_at lw_m3 92 rfl) rfl
theorem q667 : (Jvm.Cond.selects "java/util/ArrayList" ({ cls := "java/util/ArrayList", name := "add", desc := "(Ljava/lang/Object;)Z" } : Jvm.MethodName) ({ cls := "java/util/ArrayList", name := "add", desc := "(Ljava/lang/Object;)Z" } : Jvm.MethodName)) ∈ lw_all := lw_g (lw_at lw_m3 93 rfl) rfl
theorem q668 : (Jvm.Cond.code ({ cls := "java/util/ArrayList", name := "add", desc := "(Ljava/lang/Object;)Z" } : Jvm.MethodName) prog_57_method_25_code (2 : Nat) (Option.some Jvm.ClassFile.FieldType.boolean)) ∈ lw_all := lw_g (lw_at lw_m3 94 rfl) rfl
theorem q669 : (Jvm.Cond.methodLink "java/util/ArrayList" (131 : Nat) ({ cls := "java/util/ArrayList", name := "add", desc := "(Ljava/lang/Object;[Ljava/lang/Object;I)V" } : Jvm.MethodName)) ∈ lw_all := lw_g (lw_at lw_m3 95 rfl) rfl
theorem q670 : (Jvm.Cond.privateMethod ({ cls := "java/util/ArrayList", name := "add", desc := "(Ljava/lang/Object;[Ljava/lang/Object;I)V" } : Jvm.MethodName)) ∈ lw_tbl := lw_at lw_m3 96 rfl
theorem q671 : (Jvm.Cond.instanceMethod ({ cls := "java/util/ArrayList", name := "add", desc := "(Ljava/lang/Object;[Ljava/lang/Object;I)V" } : Jvm.MethodName)) ∈ lw_all := lw_g (lw_at lw_m3 97 rfl) rfl
theorem q672 : (Jvm.Cond.code ({ cls := "java/util/ArrayList", name := "add", desc := "(Ljava/lang/Object;[Ljava/lang/Object;I)V" } : Jvm.MethodName) prog_57_method_24_code (4 : Nat) (Option.none : Option Jvm.ClassFile.FieldType)) ∈ lw_all := lw_g (lw_at lw_m3 98 rfl) rfl
theorem q673 : (Jvm.Cond.methodLink "java/util/ArrayList" (129 : Nat) ({ cls := "java/util/ArrayList", name := "grow", desc := "()[Ljava/lang/Object;" } : Jvm.MethodName)) ∈ lw_all := lw_g (lw_at lw_m3 99 rfl) rfl
theorem q674 : (Jvm.Cond.privateMethod ({ cls := "java/util/ArrayList", name := "grow", desc := "()[Ljava/lang/Object;" } : Jvm.MethodName)) ∈ lw_tbl := lw_at lw_m3 100 rfl
theorem q675 : (Jvm.Cond.instanceMethod ({ cls := "java/util/ArrayList", name := "grow", desc := "()[Ljava/lang/Object;" } : Jvm.MethodName)) ∈ lw_all := lw_g (lw_at lw_m3 101 rfl) rfl
theorem q676 : (Jvm.Cond.code ({ cls := "java/util/ArrayList", name := "grow", desc := "()[Ljava/lang/Object;" } : Jvm.MethodName) prog_57_method_7_code (1 : Nat) (Option.some (Jvm.ClassFile.FieldType.array (Jvm.ClassFile.FieldType.object "java/lang/Object")))) ∈ lw_all := lw_g (lw_at lw_m3 102 rfl) rfl
theorem q677 : (Jvm.Cond.methodLink "java/util/ArrayList" (69 : Nat) ({ cls := "java/util/ArrayList", name := "grow", desc := "(I)[Ljava/lang/Object;" } : Jvm.MethodName)) ∈ lw_all := lw_g (lw_at lw_m3 103 rfl) rfl
theorem q678 : (Jvm.Cond.privateMethod ({ cls := "java/util/ArrayList", name := "grow", desc := "(I)[Ljava/lang/Object;" } : Jvm.MethodName)) ∈ lw_tbl := lw_at lw_m3 104 rfl
theorem q679 : (Jvm.Cond.instanceMethod ({ cls := "java/util/ArrayList", name := "grow", desc := "(I)[Ljava/lang/Object;" } : Jvm.MethodName)) ∈ lw_all := lw_g (lw_at lw_m3 105 rfl) rfl
theorem q680 : (Jvm.Cond.code ({ cls := "java/util/ArrayList", name := "grow", desc := "(I)[Ljava/lang/Object;" } : Jvm.MethodName) prog_57_method_6_code (4 : Nat) (Option.some (Jvm.ClassFile.FieldType.array (Jvm.ClassFile.FieldType.object "java/lang/Object")))) ∈ lw_all := lw_g (lw_at lw_m3 106 rfl) rfl
theorem q681 : (Jvm.Cond.fieldLink "java/util/ArrayList" (39 : Nat) "java/util/ArrayList" "DEFAULTCAPACITY_EMPTY_ELEMENTDATA" "[Ljava/lang/Object;") ∈ lw_all := lw_g (lw_at lw_m3 107 rfl) rfl
theorem q682 : (Jvm.Cond.laysStatic "java/util/ArrayList" "DEFAULTCAPACITY_EMPTY_ELEMENTDATA" "[Ljava/lang/Object;") ∈ lw_tbl := lw_at lw_m3 108 rfl
theorem q683 : (Jvm.Cond.methodLink "java/util/ArrayList" (73 : Nat) ({ cls := "jdk/internal/util/ArraysSupport", name := "newLength", desc := "(III)I" } : Jvm.MethodName)) ∈ lw_all := lw_g (lw_at lw_m3 109 rfl) rfl
theorem q684 : (Jvm.Cond.methodLink "java/util/ArrayList" (66 : Nat) ({ cls := "java/util/Arrays", name := "copyOf", desc := "([Ljava/lang/Object;I)[Ljava/lang/Object;" } : Jvm.MethodName)) ∈ lw_all := lw_g (lw_at lw_m3 110 rfl) rfl
theorem q719 : (Jvm.Cond.selects "java/util/ArrayList" ({ cls := "java/lang/Object", name := "getClass", desc := "()Ljava/lang/Class;" } : Jvm.MethodName) ({ cls := "java/lang/Object", name := "getClass", desc := "()Ljava/lang/Class;" } : Jvm.MethodName)) ∈ lw_all := lw_g (lw_at lw_m3 145 rfl) rfl
theorem q727 : (Jvm.Cond.methodLink "java/util/ArrayList" (79 : Nat) ({ cls := "java/lang/Math", name := "max", desc := "(II)I" } : Jvm.MethodName)) ∈ lw_all := lw_g (lw_at lw_m3 153 rfl) rfl
theorem q1582 : (Jvm.Cond.instanceMethod ({ cls := "java/util/ArrayList", name := "remove", desc := "(I)Ljava/lang/Object;" } : Jvm.MethodName)) ∈ lw_all := lw_g (lw_at lw_m7 48 rfl) rfl
theorem q1583 : (Jvm.Cond.selects "java/util/ArrayList" ({ cls := "java/util/ArrayList", name := "remove", desc := "(I)Ljava/lang/Object;" } : Jvm.MethodName) ({ cls := "java/util/ArrayList", name := "remove", desc := "(I)Ljava/lang/Object;" } : Jvm.MethodName)) ∈ lw_all := lw_g (lw_at lw_m7 49 rfl) rfl
theorem q1584 : (Jvm.Cond.code ({ cls := "java/util/ArrayList", name := "remove", desc := "(I)Ljava/lang/Object;" } : Jvm.MethodName) prog_57_method_29_code (4 : Nat) (Option.some (Jvm.ClassFile.FieldType.object "java/lang/Object"))) ∈ lw_all := lw_g (lw_at lw_m7 50 rfl) rfl
theorem q1585 : (Jvm.Cond.methodLink "java/util/ArrayList" (144 : Nat) ({ cls := "java/util/ArrayList", name := "fastRemove", desc := "([Ljava/lang/Object;I)V" } : Jvm.MethodName)) ∈ lw_all := lw_g (lw_at lw_m7 51 rfl) rfl
theorem q1586 : (Jvm.Cond.privateMethod ({ cls := "java/util/ArrayList", name := "fastRemove", desc := "([Ljava/lang/Object;I)V" } : Jvm.MethodName)) ∈ lw_tbl := lw_at lw_m7 52 rfl
theorem q1587 : (Jvm.Cond.instanceMethod ({ cls := "java/util/ArrayList", name := "fastRemove", desc := "([Ljava/lang/Object;I)V" } : Jvm.MethodName)) ∈ lw_all := lw_g (lw_at lw_m7 53 rfl) rfl
theorem q1588 : (Jvm.Cond.code ({ cls := "java/util/ArrayList", name := "fastRemove", desc := "([Ljava/lang/Object;I)V" } : Jvm.MethodName) prog_57_method_39_code (4 : Nat) (Option.none : Option Jvm.ClassFile.FieldType)) ∈ lw_all := lw_g (lw_at lw_m7 54 rfl) rfl
theorem q1589 : (Jvm.Cond.methodLink "java/util/ArrayList" (112 : Nat) ({ cls := "java/lang/System", name := "arraycopy", desc := "(Ljava/lang/Object;ILjava/lang/Object;II)V" } : Jvm.MethodName)) ∈ lw_all := lw_g (lw_at lw_m7 55 rfl) rfl
theorem q2570 : (Jvm.Cond.castable "java/util/ArrayList" "java/lang/Object") ∈ lw_tbl := lw_at lw_m11 76 rfl
theorem in_J2 : ∀ w ∈ wsJ20, w ∈ lw_all := lw_in wsJ20 [501, 497, 499] (by decide +kernel) (by decide +kernel)

/-! java/lang/Throwable -/
set_option maxRecDepth 100000
def RJ3 : String := "java/lang/Throwable"
def TJ3 : u_T := fun k => match k with
  | 0 => ("java/lang/Throwable", "cause", "Ljava/lang/Throwable;", false)
  | 1 => ("java/lang/Throwable", "stackTrace", "[Ljava/lang/StackTraceElement;", false)
  | 2 => ("java/lang/Throwable", "suppressedExceptions", "Ljava/util/List;", false)
  | 3 => ("java/lang/Throwable", "detailMessage", "Ljava/lang/String;", false)
  | _ => ("java/lang/Throwable", "backtrace", "Ljava/lang/Object;", false)
def tyJ3 : Nat → FieldType := fun k => match k with
  | 0 => .object "java/lang/Throwable"
  | 1 => .array (.object "java/lang/StackTraceElement")
  | 2 => .object "java/util/List"
  | 3 => .object "java/lang/String"
  | _ => .object "java/lang/Object"
abbrev wsJ30 : List Cond := u_ws RJ3 TJ3 5
theorem nmJ3 : ∀ a, a < 5 → ∀ b, b < 5 → a ≠ b → (TJ3 a).2.1 ≠ (TJ3 b).2.1 := by decide +kernel
theorem tyJ3_ok : ∀ k, k < 5 → parseFieldDescriptor (TJ3 k).2.2.1 = some (tyJ3 k) := by decide +kernel
abbrev cJ3_init : ByteArray := prog_52_method_1_code
def yJ3_init : MethodName := ⟨RJ3, "<init>", "()V"⟩
abbrev cJ3_init_2 : ByteArray := prog_52_method_2_code
def yJ3_init_2 : MethodName := ⟨RJ3, "<init>", "(Ljava/lang/String;)V"⟩
abbrev cJ3_init_3 : ByteArray := prog_52_method_5_code
def yJ3_init_3 : MethodName := ⟨RJ3, "<init>", "(Ljava/lang/String;Ljava/lang/Throwable;ZZ)V"⟩
theorem q100 : (Jvm.Cond.initialized "java/lang/Throwable") ∈ lw_all := lw_g (lw_at lw_m1 6 rfl) rfl
theorem q184 : (Jvm.Cond.declares ({ cls := "java/lang/Throwable", name := "<init>", desc := "()V" } : Jvm.MethodName)) ∈ lw_tbl := lw_at lw_m1 90 rfl
theorem q185 : (Jvm.Cond.declares ({ cls := "java/lang/Throwable", name := "<init>", desc := "(Ljava/lang/String;)V" } : Jvm.MethodName)) ∈ lw_tbl := lw_at lw_m1 91 rfl
theorem q189 : (Jvm.Cond.lays "java/lang/Throwable" "java/lang/Throwable" "cause" "Ljava/lang/Throwable;") ∈ lw_all := lw_g (lw_at lw_m1 95 rfl) rfl
theorem q191 : (Jvm.Cond.lays "java/lang/Throwable" "java/lang/Throwable" "stackTrace" "[Ljava/lang/StackTraceElement;") ∈ lw_all := lw_g (lw_at lw_m1 97 rfl) rfl
theorem q193 : (Jvm.Cond.lays "java/lang/Throwable" "java/lang/Throwable" "suppressedExceptions" "Ljava/util/List;") ∈ lw_all := lw_g (lw_at lw_m1 99 rfl) rfl
theorem q195 : (Jvm.Cond.lays "java/lang/Throwable" "java/lang/Throwable" "detailMessage" "Ljava/lang/String;") ∈ lw_all := lw_g (lw_at lw_m1 101 rfl) rfl
theorem q197 : (Jvm.Cond.lays "java/lang/Throwable" "java/lang/Throwable" "backtrace" "Ljava/lang/Object;") ∈ lw_all := lw_g (lw_at lw_m1 103 rfl) rfl
theorem q198 : (Jvm.Cond.fieldLink "java/lang/Throwable" (198 : Nat) "java/lang/Throwable" "backtrace" "Ljava/lang/Object;") ∈ lw_all := lw_g (lw_at lw_m1 104 rfl) rfl
theorem q199 : (Jvm.Cond.superclass "java/lang/Throwable" "java/lang/Object") ∈ lw_all := lw_g (lw_at lw_m1 105 rfl) rfl
theorem q200 : (Jvm.Cond.instanceMethod ({ cls := "java/lang/Throwable", name := "<init>", desc := "()V" } : Jvm.MethodName)) ∈ lw_all := lw_g (lw_at lw_m1 106 rfl) rfl
theorem q201 : (Jvm.Cond.code ({ cls := "java/lang/Throwable", name := "<init>", desc := "()V" } : Jvm.MethodName) prog_52_method_1_code (1 : Nat) (Option.none : Option Jvm.ClassFile.FieldType)) ∈ lw_all := lw_g (lw_at lw_m1 107 rfl) rfl
theorem q202 : (Jvm.Cond.methodLink "java/lang/Throwable" (1 : Nat) ({ cls := "java/lang/Object", name := "<init>", desc := "()V" } : Jvm.MethodName)) ∈ lw_all := lw_g (lw_at lw_m1 108 rfl) rfl
theorem q203 : (Jvm.Cond.fieldLink "java/lang/Throwable" (13 : Nat) "java/lang/Throwable" "UNASSIGNED_STACK" "[Ljava/lang/StackTraceElement;") ∈ lw_all := lw_g (lw_at lw_m1 109 rfl) rfl
theorem q204 : (Jvm.Cond.laysStatic "java/lang/Throwable" "UNASSIGNED_STACK" "[Ljava/lang/StackTraceElement;") ∈ lw_tbl := lw_at lw_m1 110 rfl
theorem q205 : (Jvm.Cond.fieldLink "java/lang/Throwable" (20 : Nat) "java/lang/Throwable" "SUPPRESSED_SENTINEL" "Ljava/util/List;") ∈ lw_all := lw_g (lw_at lw_m1 111 rfl) rfl
theorem q206 : (Jvm.Cond.laysStatic "java/lang/Throwable" "SUPPRESSED_SENTINEL" "Ljava/util/List;") ∈ lw_tbl := lw_at lw_m1 112 rfl
theorem q207 : (Jvm.Cond.methodLink "java/lang/Throwable" (27 : Nat) ({ cls := "java/lang/Throwable", name := "fillInStackTrace", desc := "()Ljava/lang/Throwable;" } : Jvm.MethodName)) ∈ lw_all := lw_g (lw_at lw_m1 113 rfl) rfl
theorem q208 : (Jvm.Cond.instanceMethod ({ cls := "java/lang/Throwable", name := "fillInStackTrace", desc := "()Ljava/lang/Throwable;" } : Jvm.MethodName)) ∈ lw_all := lw_g (lw_at lw_m1 114 rfl) rfl
theorem q209 : (Jvm.Cond.sameMethod "java/lang/Throwable" "java/lang/Throwable" "fillInStackTrace" "()Ljava/lang/Throwable;") ∈ lw_all := lw_g (lw_at lw_m1 115 rfl) rfl
theorem q212 : (Jvm.Cond.codeSync ({ cls := "java/lang/Throwable", name := "fillInStackTrace", desc := "()Ljava/lang/Throwable;" } : Jvm.MethodName) prog_52_method_18_code (1 : Nat) (Option.some (Jvm.ClassFile.FieldType.object "java/lang/Throwable"))) ∈ lw_all := lw_g (lw_at lw_m1 118 rfl) rfl
theorem q213 : (Jvm.Cond.methodLink "java/lang/Throwable" (202 : Nat) ({ cls := "java/lang/Throwable", name := "fillInStackTrace", desc := "(I)Ljava/lang/Throwable;" } : Jvm.MethodName)) ∈ lw_all := lw_g (lw_at lw_m1 119 rfl) rfl
theorem q214 : (Jvm.Cond.privateMethod ({ cls := "java/lang/Throwable", name := "fillInStackTrace", desc := "(I)Ljava/lang/Throwable;" } : Jvm.MethodName)) ∈ lw_tbl := lw_at lw_m1 120 rfl
theorem q215 : (Jvm.Cond.instanceMethod ({ cls := "java/lang/Throwable", name := "fillInStackTrace", desc := "(I)Ljava/lang/Throwable;" } : Jvm.MethodName)) ∈ lw_all := lw_g (lw_at lw_m1 121 rfl) rfl
theorem q216 : (Jvm.Cond.instantiable "java/lang/Throwable" (6 : Nat)) ∈ lw_all := lw_g (lw_at lw_m1 122 rfl) rfl
theorem q217 : (Jvm.Cond.native ({ cls := "java/lang/Throwable", name := "fillInStackTrace", desc := "(I)Ljava/lang/Throwable;" } : Jvm.MethodName)) ∈ lw_all := lw_g (lw_at lw_m1 123 rfl) rfl
theorem q450 : (Jvm.Cond.instanceMethod ({ cls := "java/lang/Throwable", name := "<init>", desc := "(Ljava/lang/String;)V" } : Jvm.MethodName)) ∈ lw_all := lw_g (lw_at lw_m2 116 rfl) rfl
theorem q451 : (Jvm.Cond.code ({ cls := "java/lang/Throwable", name := "<init>", desc := "(Ljava/lang/String;)V" } : Jvm.MethodName) prog_52_method_2_code (2 : Nat) (Option.none : Option Jvm.ClassFile.FieldType)) ∈ lw_all := lw_g (lw_at lw_m2 117 rfl) rfl
theorem q452 : (Jvm.Cond.fieldLink "java/lang/Throwable" (198 : Nat) "java/lang/Throwable" "backtrace" "Ljava/lang/Object;") ∈ lw_all := lw_g (lw_at lw_m2 118 rfl) rfl
theorem q453 : (Jvm.Cond.fieldLink "java/lang/Throwable" (31 : Nat) "java/lang/Throwable" "detailMessage" "Ljava/lang/String;") ∈ lw_all := lw_g (lw_at lw_m2 119 rfl) rfl
theorem q454 : (Jvm.Cond.fieldLink "java/lang/Throwable" (7 : Nat) "java/lang/Throwable" "cause" "Ljava/lang/Throwable;") ∈ lw_all := lw_g (lw_at lw_m2 120 rfl) rfl
theorem q455 : (Jvm.Cond.fieldLink "java/lang/Throwable" (17 : Nat) "java/lang/Throwable" "stackTrace" "[Ljava/lang/StackTraceElement;") ∈ lw_all := lw_g (lw_at lw_m2 121 rfl) rfl
theorem q456 : (Jvm.Cond.fieldLink "java/lang/Throwable" (24 : Nat) "java/lang/Throwable" "suppressedExceptions" "Ljava/util/List;") ∈ lw_all := lw_g (lw_at lw_m2 122 rfl) rfl
theorem q457 : (Jvm.Cond.soleField "java/lang/Throwable" "backtrace") ∈ lw_all := lw_g (lw_at lw_m2 123 rfl) rfl
theorem q458 : (Jvm.Cond.soleField "java/lang/Throwable" "detailMessage") ∈ lw_all := lw_g (lw_at lw_m2 124 rfl) rfl
theorem q459 : (Jvm.Cond.soleField "java/lang/Throwable" "cause") ∈ lw_all := lw_g (lw_at lw_m2 125 rfl) rfl
theorem q460 : (Jvm.Cond.soleField "java/lang/Throwable" "stackTrace") ∈ lw_all := lw_g (lw_at lw_m2 126 rfl) rfl
theorem q462 : (Jvm.Cond.soleField "java/lang/Throwable" "depth") ∈ lw_all := lw_g (lw_at lw_m2 128 rfl) rfl
theorem q463 : (Jvm.Cond.soleField "java/lang/Throwable" "suppressedExceptions") ∈ lw_all := lw_g (lw_at lw_m2 129 rfl) rfl
theorem q1101 : (Jvm.Cond.instanceMethod ({ cls := "java/lang/Throwable", name := "<init>", desc := "(Ljava/lang/String;Ljava/lang/Throwable;ZZ)V" } : Jvm.MethodName)) ∈ lw_all := lw_g (lw_at lw_m5 47 rfl) rfl
theorem q1102 : (Jvm.Cond.code ({ cls := "java/lang/Throwable", name := "<init>", desc := "(Ljava/lang/String;Ljava/lang/Throwable;ZZ)V" } : Jvm.MethodName) prog_52_method_5_code (5 : Nat) (Option.none : Option Jvm.ClassFile.FieldType)) ∈ lw_all := lw_g (lw_at lw_m5 48 rfl) rfl
theorem q2539 : (Jvm.Cond.sameMethod "java/lang/Throwable" "java/lang/Throwable" "fillInStackTrace" "(I)Ljava/lang/Throwable;") ∈ lw_all := lw_g (lw_at lw_m11 45 rfl) rfl
theorem q2598 : (Jvm.Cond.castable "java/lang/Throwable" "java/lang/Object") ∈ lw_tbl := lw_at lw_m11 104 rfl
theorem in_J3 : ∀ w ∈ wsJ30, w ∈ lw_all := lw_in wsJ30 [189, 191, 193, 195, 197] (by decide +kernel) (by decide +kernel)

/-! java/lang/Exception -/
set_option maxRecDepth 100000
def RJ4 : String := "java/lang/Exception"
abbrev cJ4_init : ByteArray := prog_39_method_2_code
def yJ4_init : MethodName := ⟨RJ4, "<init>", "(Ljava/lang/String;)V"⟩
abbrev cJ4_init_2 : ByteArray := prog_39_method_1_code
def yJ4_init_2 : MethodName := ⟨RJ4, "<init>", "()V"⟩
abbrev cJ4_init_3 : ByteArray := prog_39_method_5_code
def yJ4_init_3 : MethodName := ⟨RJ4, "<init>", "(Ljava/lang/String;Ljava/lang/Throwable;ZZ)V"⟩
theorem q101 : (Jvm.Cond.initialized "java/lang/Exception") ∈ lw_all := lw_g (lw_at lw_m1 7 rfl) rfl
theorem q182 : (Jvm.Cond.declares ({ cls := "java/lang/Exception", name := "<init>", desc := "()V" } : Jvm.MethodName)) ∈ lw_tbl := lw_at lw_m1 88 rfl
theorem q183 : (Jvm.Cond.declares ({ cls := "java/lang/Exception", name := "<init>", desc := "(Ljava/lang/String;)V" } : Jvm.MethodName)) ∈ lw_tbl := lw_at lw_m1 89 rfl
theorem q447 : (Jvm.Cond.instanceMethod ({ cls := "java/lang/Exception", name := "<init>", desc := "(Ljava/lang/String;)V" } : Jvm.MethodName)) ∈ lw_all := lw_g (lw_at lw_m2 113 rfl) rfl
theorem q448 : (Jvm.Cond.code ({ cls := "java/lang/Exception", name := "<init>", desc := "(Ljava/lang/String;)V" } : Jvm.MethodName) prog_39_method_2_code (2 : Nat) (Option.none : Option Jvm.ClassFile.FieldType)) ∈ lw_all := lw_g (lw_at lw_m2 114 rfl) rfl
theorem q449 : (Jvm.Cond.methodLink "java/lang/Exception" (7 : Nat) ({ cls := "java/lang/Throwable", name := "<init>", desc := "(Ljava/lang/String;)V" } : Jvm.MethodName)) ∈ lw_all := lw_g (lw_at lw_m2 115 rfl) rfl
theorem q902 : (Jvm.Cond.instanceMethod ({ cls := "java/lang/Exception", name := "<init>", desc := "()V" } : Jvm.MethodName)) ∈ lw_all := lw_g (lw_at lw_m4 88 rfl) rfl
theorem q903 : (Jvm.Cond.code ({ cls := "java/lang/Exception", name := "<init>", desc := "()V" } : Jvm.MethodName) prog_39_method_1_code (1 : Nat) (Option.none : Option Jvm.ClassFile.FieldType)) ∈ lw_all := lw_g (lw_at lw_m4 89 rfl) rfl
theorem q904 : (Jvm.Cond.methodLink "java/lang/Exception" (1 : Nat) ({ cls := "java/lang/Throwable", name := "<init>", desc := "()V" } : Jvm.MethodName)) ∈ lw_all := lw_g (lw_at lw_m4 90 rfl) rfl
theorem q1098 : (Jvm.Cond.instanceMethod ({ cls := "java/lang/Exception", name := "<init>", desc := "(Ljava/lang/String;Ljava/lang/Throwable;ZZ)V" } : Jvm.MethodName)) ∈ lw_all := lw_g (lw_at lw_m5 44 rfl) rfl
theorem q1099 : (Jvm.Cond.code ({ cls := "java/lang/Exception", name := "<init>", desc := "(Ljava/lang/String;Ljava/lang/Throwable;ZZ)V" } : Jvm.MethodName) prog_39_method_5_code (5 : Nat) (Option.none : Option Jvm.ClassFile.FieldType)) ∈ lw_all := lw_g (lw_at lw_m5 45 rfl) rfl
theorem q1100 : (Jvm.Cond.methodLink "java/lang/Exception" (16 : Nat) ({ cls := "java/lang/Throwable", name := "<init>", desc := "(Ljava/lang/String;Ljava/lang/Throwable;ZZ)V" } : Jvm.MethodName)) ∈ lw_all := lw_g (lw_at lw_m5 46 rfl) rfl

/-! java/lang/RuntimeException -/
set_option maxRecDepth 100000
def RJ5 : String := "java/lang/RuntimeException"
abbrev cJ5_init : ByteArray := prog_45_method_2_code
def yJ5_init : MethodName := ⟨RJ5, "<init>", "(Ljava/lang/String;)V"⟩
abbrev cJ5_init_2 : ByteArray := prog_45_method_1_code
def yJ5_init_2 : MethodName := ⟨RJ5, "<init>", "()V"⟩
theorem q102 : (Jvm.Cond.initialized "java/lang/RuntimeException") ∈ lw_all := lw_g (lw_at lw_m1 8 rfl) rfl
theorem q180 : (Jvm.Cond.declares ({ cls := "java/lang/RuntimeException", name := "<init>", desc := "()V" } : Jvm.MethodName)) ∈ lw_tbl := lw_at lw_m1 86 rfl
theorem q181 : (Jvm.Cond.declares ({ cls := "java/lang/RuntimeException", name := "<init>", desc := "(Ljava/lang/String;)V" } : Jvm.MethodName)) ∈ lw_tbl := lw_at lw_m1 87 rfl
theorem q444 : (Jvm.Cond.instanceMethod ({ cls := "java/lang/RuntimeException", name := "<init>", desc := "(Ljava/lang/String;)V" } : Jvm.MethodName)) ∈ lw_all := lw_g (lw_at lw_m2 110 rfl) rfl
theorem q445 : (Jvm.Cond.code ({ cls := "java/lang/RuntimeException", name := "<init>", desc := "(Ljava/lang/String;)V" } : Jvm.MethodName) prog_45_method_2_code (2 : Nat) (Option.none : Option Jvm.ClassFile.FieldType)) ∈ lw_all := lw_g (lw_at lw_m2 111 rfl) rfl
theorem q446 : (Jvm.Cond.methodLink "java/lang/RuntimeException" (7 : Nat) ({ cls := "java/lang/Exception", name := "<init>", desc := "(Ljava/lang/String;)V" } : Jvm.MethodName)) ∈ lw_all := lw_g (lw_at lw_m2 112 rfl) rfl
theorem q899 : (Jvm.Cond.instanceMethod ({ cls := "java/lang/RuntimeException", name := "<init>", desc := "()V" } : Jvm.MethodName)) ∈ lw_all := lw_g (lw_at lw_m4 85 rfl) rfl
theorem q900 : (Jvm.Cond.code ({ cls := "java/lang/RuntimeException", name := "<init>", desc := "()V" } : Jvm.MethodName) prog_45_method_1_code (1 : Nat) (Option.none : Option Jvm.ClassFile.FieldType)) ∈ lw_all := lw_g (lw_at lw_m4 86 rfl) rfl
theorem q901 : (Jvm.Cond.methodLink "java/lang/RuntimeException" (1 : Nat) ({ cls := "java/lang/Exception", name := "<init>", desc := "()V" } : Jvm.MethodName)) ∈ lw_all := lw_g (lw_at lw_m4 87 rfl) rfl

/-! java/lang/IllegalArgumentException -/
set_option maxRecDepth 100000
def RJ6 : String := "java/lang/IllegalArgumentException"
def TJ6 : u_T := fun k => match k with
  | 0 => ("java/lang/Throwable", "cause", "Ljava/lang/Throwable;", false)
  | 1 => ("java/lang/Throwable", "stackTrace", "[Ljava/lang/StackTraceElement;", false)
  | 2 => ("java/lang/Throwable", "suppressedExceptions", "Ljava/util/List;", false)
  | 3 => ("java/lang/Throwable", "detailMessage", "Ljava/lang/String;", false)
  | 4 => ("java/lang/Throwable", "backtrace", "Ljava/lang/Object;", false)
  | _ => ("java/lang/Throwable", "depth", "I", false)
def tyJ6 : Nat → FieldType := fun k => match k with
  | 0 => .object "java/lang/Throwable"
  | 1 => .array (.object "java/lang/StackTraceElement")
  | 2 => .object "java/util/List"
  | 3 => .object "java/lang/String"
  | 4 => .object "java/lang/Object"
  | _ => .int
abbrev wsJ60 : List Cond := u_ws RJ6 TJ6 6
theorem nmJ6 : ∀ a, a < 6 → ∀ b, b < 6 → a ≠ b → (TJ6 a).2.1 ≠ (TJ6 b).2.1 := by decide +kernel
theorem tyJ6_ok : ∀ k, k < 6 → parseFieldDescriptor (TJ6 k).2.2.1 = some (tyJ6 k) := by decide +kernel
abbrev cJ6_init : ByteArray := prog_40_method_2_code
def yJ6_init : MethodName := ⟨RJ6, "<init>", "(Ljava/lang/String;)V"⟩
abbrev cJ6_init_2 : ByteArray := prog_40_method_1_code
def yJ6_init_2 : MethodName := ⟨RJ6, "<init>", "()V"⟩
theorem q103 : (Jvm.Cond.initialized "java/lang/IllegalArgumentException") ∈ lw_all := lw_g (lw_at lw_m1 9 rfl) rfl
theorem q178 : (Jvm.Cond.instantiable "java/lang/IllegalArgumentException" (6 : Nat)) ∈ lw_all := lw_g (lw_at lw_m1 84 rfl) rfl
theorem q179 : (Jvm.Cond.castable "java/lang/IllegalArgumentException" "java/lang/IllegalArgumentException") ∈ lw_tbl := lw_at lw_m1 85 rfl
theorem q186 : (Jvm.Cond.selects "java/lang/IllegalArgumentException" ({ cls := "java/lang/Throwable", name := "fillInStackTrace", desc := "(I)Ljava/lang/Throwable;" } : Jvm.MethodName) ({ cls := "java/lang/Throwable", name := "fillInStackTrace", desc := "(I)Ljava/lang/Throwable;" } : Jvm.MethodName)) ∈ lw_all := lw_g (lw_at lw_m1 92 rfl) rfl
theorem q187 : (Jvm.Cond.selects "java/lang/IllegalArgumentException" ({ cls := "java/lang/Throwable", name := "fillInStackTrace", desc := "()Ljava/lang/Throwable;" } : Jvm.MethodName) ({ cls := "java/lang/Throwable", name := "fillInStackTrace", desc := "()Ljava/lang/Throwable;" } : Jvm.MethodName)) ∈ lw_all := lw_g (lw_at lw_m1 93 rfl) rfl
theorem q188 : (Jvm.Cond.lays "java/lang/IllegalArgumentException" "java/lang/Throwable" "cause" "Ljava/lang/Throwable;") ∈ lw_all := lw_g (lw_at lw_m1 94 rfl) rfl
theorem q190 : (Jvm.Cond.lays "java/lang/IllegalArgumentException" "java/lang/Throwable" "stackTrace" "[Ljava/lang/StackTraceElement;") ∈ lw_all := lw_g (lw_at lw_m1 96 rfl) rfl
theorem q192 : (Jvm.Cond.lays "java/lang/IllegalArgumentException" "java/lang/Throwable" "suppressedExceptions" "Ljava/util/List;") ∈ lw_all := lw_g (lw_at lw_m1 98 rfl) rfl
theorem q194 : (Jvm.Cond.lays "java/lang/IllegalArgumentException" "java/lang/Throwable" "detailMessage" "Ljava/lang/String;") ∈ lw_all := lw_g (lw_at lw_m1 100 rfl) rfl
theorem q196 : (Jvm.Cond.lays "java/lang/IllegalArgumentException" "java/lang/Throwable" "backtrace" "Ljava/lang/Object;") ∈ lw_all := lw_g (lw_at lw_m1 102 rfl) rfl
theorem q441 : (Jvm.Cond.instanceMethod ({ cls := "java/lang/IllegalArgumentException", name := "<init>", desc := "(Ljava/lang/String;)V" } : Jvm.MethodName)) ∈ lw_all := lw_g (lw_at lw_m2 107 rfl) rfl
theorem q442 : (Jvm.Cond.code ({ cls := "java/lang/IllegalArgumentException", name := "<init>", desc := "(Ljava/lang/String;)V" } : Jvm.MethodName) prog_40_method_2_code (2 : Nat) (Option.none : Option Jvm.ClassFile.FieldType)) ∈ lw_all := lw_g (lw_at lw_m2 108 rfl) rfl
theorem q443 : (Jvm.Cond.methodLink "java/lang/IllegalArgumentException" (7 : Nat) ({ cls := "java/lang/RuntimeException", name := "<init>", desc := "(Ljava/lang/String;)V" } : Jvm.MethodName)) ∈ lw_all := lw_g (lw_at lw_m2 109 rfl) rfl
theorem q461 : (Jvm.Cond.lays "java/lang/IllegalArgumentException" "java/lang/Throwable" "depth" "I") ∈ lw_all := lw_g (lw_at lw_m2 127 rfl) rfl
theorem q464 : (Jvm.Cond.superclass "java/lang/IllegalArgumentException" "java/lang/RuntimeException") ∈ lw_all := lw_g (lw_at lw_m2 130 rfl) rfl
theorem q715 : (Jvm.Cond.selects "java/lang/IllegalArgumentException" ({ cls := "java/lang/Object", name := "getClass", desc := "()Ljava/lang/Class;" } : Jvm.MethodName) ({ cls := "java/lang/Object", name := "getClass", desc := "()Ljava/lang/Class;" } : Jvm.MethodName)) ∈ lw_all := lw_g (lw_at lw_m3 141 rfl) rfl
theorem q896 : (Jvm.Cond.instanceMethod ({ cls := "java/lang/IllegalArgumentException", name := "<init>", desc := "()V" } : Jvm.MethodName)) ∈ lw_all := lw_g (lw_at lw_m4 82 rfl) rfl
theorem q897 : (Jvm.Cond.code ({ cls := "java/lang/IllegalArgumentException", name := "<init>", desc := "()V" } : Jvm.MethodName) prog_40_method_1_code (1 : Nat) (Option.none : Option Jvm.ClassFile.FieldType)) ∈ lw_all := lw_g (lw_at lw_m4 83 rfl) rfl
theorem q898 : (Jvm.Cond.methodLink "java/lang/IllegalArgumentException" (1 : Nat) ({ cls := "java/lang/RuntimeException", name := "<init>", desc := "()V" } : Jvm.MethodName)) ∈ lw_all := lw_g (lw_at lw_m4 84 rfl) rfl
theorem q2571 : (Jvm.Cond.castable "java/lang/IllegalArgumentException" "java/lang/Object") ∈ lw_tbl := lw_at lw_m11 77 rfl
theorem in_J6 : ∀ w ∈ wsJ60, w ∈ lw_all := lw_in wsJ60 [188, 190, 192, 194, 196, 461] (by decide +kernel) (by decide +kernel)

/-! java/lang/AbstractStringBuilder -/
set_option maxRecDepth 100000
def RJ7 : String := "java/lang/AbstractStringBuilder"
abbrev cJ7_init : ByteArray := prog_34_method_2_code
def yJ7_init : MethodName := ⟨RJ7, "<init>", "(I)V"⟩
abbrev cJ7_append : ByteArray := prog_34_method_22_code
def yJ7_append : MethodName := ⟨RJ7, "append", "(Ljava/lang/String;)Ljava/lang/AbstractStringBuilder;"⟩
abbrev cJ7_appendNull : ByteArray := prog_34_method_26_code
def yJ7_appendNull : MethodName := ⟨RJ7, "appendNull", "()Ljava/lang/AbstractStringBuilder;"⟩
abbrev cJ7_ensureCapacityInternal : ByteArray := prog_34_method_9_code
def yJ7_ensureCapacityInternal : MethodName := ⟨RJ7, "ensureCapacityInternal", "(I)V"⟩
abbrev cJ7_newCapacity : ByteArray := prog_34_method_10_code
def yJ7_newCapacity : MethodName := ⟨RJ7, "newCapacity", "(I)I"⟩
abbrev cJ7_isLatin1 : ByteArray := prog_34_method_68_code
def yJ7_isLatin1 : MethodName := ⟨RJ7, "isLatin1", "()Z"⟩
abbrev cJ7_putStringAt : ByteArray := prog_34_method_73_code
def yJ7_putStringAt : MethodName := ⟨RJ7, "putStringAt", "(ILjava/lang/String;)V"⟩
abbrev cJ7_inflateIfNeededFor : ByteArray := prog_34_method_71_code
def yJ7_inflateIfNeededFor : MethodName := ⟨RJ7, "inflateIfNeededFor", "(Ljava/lang/String;)V"⟩
abbrev cJ7_inflate : ByteArray := prog_34_method_11_code
def yJ7_inflate : MethodName := ⟨RJ7, "inflate", "()V"⟩
abbrev cJ7_append_2 : ByteArray := prog_34_method_32_code
def yJ7_append_2 : MethodName := ⟨RJ7, "append", "(I)Ljava/lang/AbstractStringBuilder;"⟩
abbrev cJ7_getValue : ByteArray := prog_34_method_64_code
def yJ7_getValue : MethodName := ⟨RJ7, "getValue", "()[B"⟩
abbrev cJ7_length : ByteArray := prog_34_method_6_code
def yJ7_length : MethodName := ⟨RJ7, "length", "()I"⟩
abbrev cJ7_append_3 : ByteArray := prog_34_method_31_code
def yJ7_append_3 : MethodName := ⟨RJ7, "append", "(C)Ljava/lang/AbstractStringBuilder;"⟩
theorem q104 : (Jvm.Cond.initialized "java/lang/AbstractStringBuilder") ∈ lw_all := lw_g (lw_at lw_m1 10 rfl) rfl
theorem q224 : (Jvm.Cond.instanceMethod ({ cls := "java/lang/AbstractStringBuilder", name := "<init>", desc := "(I)V" } : Jvm.MethodName)) ∈ lw_all := lw_g (lw_at lw_m1 130 rfl) rfl
theorem q225 : (Jvm.Cond.code ({ cls := "java/lang/AbstractStringBuilder", name := "<init>", desc := "(I)V" } : Jvm.MethodName) prog_34_method_2_code (2 : Nat) (Option.none : Option Jvm.ClassFile.FieldType)) ∈ lw_all := lw_g (lw_at lw_m1 131 rfl) rfl
theorem q226 : (Jvm.Cond.methodLink "java/lang/AbstractStringBuilder" (3 : Nat) ({ cls := "java/lang/Object", name := "<init>", desc := "()V" } : Jvm.MethodName)) ∈ lw_all := lw_g (lw_at lw_m1 132 rfl) rfl
theorem q227 : (Jvm.Cond.fieldLink "java/lang/AbstractStringBuilder" (18 : Nat) "java/lang/String" "COMPACT_STRINGS" "Z") ∈ lw_all := lw_g (lw_at lw_m1 133 rfl) rfl
theorem q229 : (Jvm.Cond.methodLink "java/lang/AbstractStringBuilder" (26 : Nat) ({ cls := "java/lang/StringUTF16", name := "newBytesFor", desc := "(I)[B" } : Jvm.MethodName)) ∈ lw_all := lw_g (lw_at lw_m1 135 rfl) rfl
theorem q236 : (Jvm.Cond.fieldLink "java/lang/AbstractStringBuilder" (15 : Nat) "java/lang/AbstractStringBuilder" "value" "[B") ∈ lw_all := lw_g (lw_at lw_m1 142 rfl) rfl
theorem q237 : (Jvm.Cond.fieldLink "java/lang/AbstractStringBuilder" (22 : Nat) "java/lang/AbstractStringBuilder" "coder" "B") ∈ lw_all := lw_g (lw_at lw_m1 143 rfl) rfl
theorem q239 : (Jvm.Cond.fieldLink "java/lang/AbstractStringBuilder" (79 : Nat) "java/lang/AbstractStringBuilder" "count" "I") ∈ lw_all := lw_g (lw_at lw_m1 145 rfl) rfl
theorem q241 : (Jvm.Cond.soleField "java/lang/AbstractStringBuilder" "value") ∈ lw_all := lw_g (lw_at lw_m1 147 rfl) rfl
theorem q243 : (Jvm.Cond.soleField "java/lang/AbstractStringBuilder" "coder") ∈ lw_all := lw_g (lw_at lw_m1 149 rfl) rfl
theorem q245 : (Jvm.Cond.soleField "java/lang/AbstractStringBuilder" "maybeLatin1") ∈ lw_all := lw_g (lw_at lw_m1 151 rfl) rfl
theorem q247 : (Jvm.Cond.soleField "java/lang/AbstractStringBuilder" "count") ∈ lw_all := lw_g (lw_at lw_m1 153 rfl) rfl
theorem q257 : (Jvm.Cond.instanceMethod ({ cls := "java/lang/AbstractStringBuilder", name := "append", desc := "(Ljava/lang/String;)Ljava/lang/AbstractStringBuilder;" } : Jvm.MethodName)) ∈ lw_all := lw_g (lw_at lw_m1 163 rfl) rfl
theorem q258 : (Jvm.Cond.code ({ cls := "java/lang/AbstractStringBuilder", name := "append", desc := "(Ljava/lang/String;)Ljava/lang/AbstractStringBuilder;" } : Jvm.MethodName) prog_34_method_22_code (3 : Nat) (Option.some (Jvm.ClassFile.FieldType.object "java/lang/AbstractStringBuilder"))) ∈ lw_all := lw_g (lw_at lw_m1 164 rfl) rfl
theorem q259 : (Jvm.Cond.methodLink "java/lang/AbstractStringBuilder" (204 : Nat) ({ cls := "java/lang/AbstractStringBuilder", name := "appendNull", desc := "()Ljava/lang/AbstractStringBuilder;" } : Jvm.MethodName)) ∈ lw_all := lw_g (lw_at lw_m1 165 rfl) rfl
theorem q260 : (Jvm.Cond.privateMethod ({ cls := "java/lang/AbstractStringBuilder", name := "appendNull", desc := "()Ljava/lang/AbstractStringBuilder;" } : Jvm.MethodName)) ∈ lw_tbl := lw_at lw_m1 166 rfl
theorem q261 : (Jvm.Cond.instanceMethod ({ cls := "java/lang/AbstractStringBuilder", name := "appendNull", desc := "()Ljava/lang/AbstractStringBuilder;" } : Jvm.MethodName)) ∈ lw_all := lw_g (lw_at lw_m1 167 rfl) rfl
theorem q262 : (Jvm.Cond.code ({ cls := "java/lang/AbstractStringBuilder", name := "appendNull", desc := "()Ljava/lang/AbstractStringBuilder;" } : Jvm.MethodName) prog_34_method_26_code (3 : Nat) (Option.some (Jvm.ClassFile.FieldType.object "java/lang/AbstractStringBuilder"))) ∈ lw_all := lw_g (lw_at lw_m1 168 rfl) rfl
theorem q263 : (Jvm.Cond.methodLink "java/lang/AbstractStringBuilder" (100 : Nat) ({ cls := "java/lang/AbstractStringBuilder", name := "ensureCapacityInternal", desc := "(I)V" } : Jvm.MethodName)) ∈ lw_all := lw_g (lw_at lw_m1 169 rfl) rfl
theorem q264 : (Jvm.Cond.privateMethod ({ cls := "java/lang/AbstractStringBuilder", name := "ensureCapacityInternal", desc := "(I)V" } : Jvm.MethodName)) ∈ lw_tbl := lw_at lw_m1 170 rfl
theorem q265 : (Jvm.Cond.instanceMethod ({ cls := "java/lang/AbstractStringBuilder", name := "ensureCapacityInternal", desc := "(I)V" } : Jvm.MethodName)) ∈ lw_all := lw_g (lw_at lw_m1 171 rfl) rfl
theorem q266 : (Jvm.Cond.code ({ cls := "java/lang/AbstractStringBuilder", name := "ensureCapacityInternal", desc := "(I)V" } : Jvm.MethodName) prog_34_method_9_code (3 : Nat) (Option.none : Option Jvm.ClassFile.FieldType)) ∈ lw_all := lw_g (lw_at lw_m1 172 rfl) rfl
theorem q267 : (Jvm.Cond.methodLink "java/lang/AbstractStringBuilder" (104 : Nat) ({ cls := "java/lang/AbstractStringBuilder", name := "newCapacity", desc := "(I)I" } : Jvm.MethodName)) ∈ lw_all := lw_g (lw_at lw_m1 173 rfl) rfl
theorem q268 : (Jvm.Cond.privateMethod ({ cls := "java/lang/AbstractStringBuilder", name := "newCapacity", desc := "(I)I" } : Jvm.MethodName)) ∈ lw_tbl := lw_at lw_m1 174 rfl
theorem q269 : (Jvm.Cond.instanceMethod ({ cls := "java/lang/AbstractStringBuilder", name := "newCapacity", desc := "(I)I" } : Jvm.MethodName)) ∈ lw_all := lw_g (lw_at lw_m1 175 rfl) rfl
theorem q270 : (Jvm.Cond.code ({ cls := "java/lang/AbstractStringBuilder", name := "newCapacity", desc := "(I)I" } : Jvm.MethodName) prog_34_method_10_code (6 : Nat) (Option.some Jvm.ClassFile.FieldType.int)) ∈ lw_all := lw_g (lw_at lw_m1 176 rfl) rfl
theorem q271 : (Jvm.Cond.methodLink "java/lang/AbstractStringBuilder" (114 : Nat) ({ cls := "jdk/internal/util/ArraysSupport", name := "newLength", desc := "(III)I" } : Jvm.MethodName)) ∈ lw_all := lw_g (lw_at lw_m1 177 rfl) rfl
theorem q281 : (Jvm.Cond.constant "java/lang/AbstractStringBuilder" (39 : Nat) (2147483647 : Int32)) ∈ lw_all := lw_g (lw_at lw_m1 187 rfl) rfl
theorem q282 : (Jvm.Cond.methodLink "java/lang/AbstractStringBuilder" (108 : Nat) ({ cls := "java/util/Arrays", name := "copyOf", desc := "([BI)[B" } : Jvm.MethodName)) ∈ lw_all := lw_g (lw_at lw_m1 188 rfl) rfl
theorem q298 : (Jvm.Cond.methodLink "java/lang/AbstractStringBuilder" (83 : Nat) ({ cls := "java/lang/AbstractStringBuilder", name := "isLatin1", desc := "()Z" } : Jvm.MethodName)) ∈ lw_all := lw_g (lw_at lw_m1 204 rfl) rfl
theorem q299 : (Jvm.Cond.instanceMethod ({ cls := "java/lang/AbstractStringBuilder", name := "isLatin1", desc := "()Z" } : Jvm.MethodName)) ∈ lw_all := lw_g (lw_at lw_m1 205 rfl) rfl
theorem q300 : (Jvm.Cond.sameMethod "java/lang/AbstractStringBuilder" "java/lang/AbstractStringBuilder" "isLatin1" "()Z") ∈ lw_all := lw_g (lw_at lw_m1 206 rfl) rfl
theorem q302 : (Jvm.Cond.code ({ cls := "java/lang/AbstractStringBuilder", name := "isLatin1", desc := "()Z" } : Jvm.MethodName) prog_34_method_68_code (1 : Nat) (Option.some Jvm.ClassFile.FieldType.boolean)) ∈ lw_all := lw_g (lw_at lw_m1 208 rfl) rfl
theorem q303 : (Jvm.Cond.methodLink "java/lang/AbstractStringBuilder" (226 : Nat) ({ cls := "java/lang/StringUTF16", name := "putCharsAt", desc := "([BICCCC)I" } : Jvm.MethodName)) ∈ lw_all := lw_g (lw_at lw_m1 209 rfl) rfl
theorem q329 : (Jvm.Cond.methodLink "java/lang/AbstractStringBuilder" (32 : Nat) ({ cls := "java/lang/String", name := "length", desc := "()I" } : Jvm.MethodName)) ∈ lw_all := lw_g (lw_at lw_m1 235 rfl) rfl
theorem q338 : (Jvm.Cond.methodLink "java/lang/AbstractStringBuilder" (208 : Nat) ({ cls := "java/lang/AbstractStringBuilder", name := "putStringAt", desc := "(ILjava/lang/String;)V" } : Jvm.MethodName)) ∈ lw_all := lw_g (lw_at lw_m2 4 rfl) rfl
theorem q339 : (Jvm.Cond.privateMethod ({ cls := "java/lang/AbstractStringBuilder", name := "putStringAt", desc := "(ILjava/lang/String;)V" } : Jvm.MethodName)) ∈ lw_tbl := lw_at lw_m2 5 rfl
theorem q340 : (Jvm.Cond.instanceMethod ({ cls := "java/lang/AbstractStringBuilder", name := "putStringAt", desc := "(ILjava/lang/String;)V" } : Jvm.MethodName)) ∈ lw_all := lw_g (lw_at lw_m2 6 rfl) rfl
theorem q341 : (Jvm.Cond.code ({ cls := "java/lang/AbstractStringBuilder", name := "putStringAt", desc := "(ILjava/lang/String;)V" } : Jvm.MethodName) prog_34_method_73_code (3 : Nat) (Option.none : Option Jvm.ClassFile.FieldType)) ∈ lw_all := lw_g (lw_at lw_m2 7 rfl) rfl
theorem q342 : (Jvm.Cond.methodLink "java/lang/AbstractStringBuilder" (397 : Nat) ({ cls := "java/lang/AbstractStringBuilder", name := "inflateIfNeededFor", desc := "(Ljava/lang/String;)V" } : Jvm.MethodName)) ∈ lw_all := lw_g (lw_at lw_m2 8 rfl) rfl
theorem q343 : (Jvm.Cond.privateMethod ({ cls := "java/lang/AbstractStringBuilder", name := "inflateIfNeededFor", desc := "(Ljava/lang/String;)V" } : Jvm.MethodName)) ∈ lw_tbl := lw_at lw_m2 9 rfl
theorem q344 : (Jvm.Cond.instanceMethod ({ cls := "java/lang/AbstractStringBuilder", name := "inflateIfNeededFor", desc := "(Ljava/lang/String;)V" } : Jvm.MethodName)) ∈ lw_all := lw_g (lw_at lw_m2 10 rfl) rfl
theorem q345 : (Jvm.Cond.code ({ cls := "java/lang/AbstractStringBuilder", name := "inflateIfNeededFor", desc := "(Ljava/lang/String;)V" } : Jvm.MethodName) prog_34_method_71_code (2 : Nat) (Option.none : Option Jvm.ClassFile.FieldType)) ∈ lw_all := lw_g (lw_at lw_m2 11 rfl) rfl
theorem q346 : (Jvm.Cond.methodLink "java/lang/AbstractStringBuilder" (40 : Nat) ({ cls := "java/lang/String", name := "coder", desc := "()B" } : Jvm.MethodName)) ∈ lw_all := lw_g (lw_at lw_m2 12 rfl) rfl
theorem q347 : (Jvm.Cond.methodLink "java/lang/AbstractStringBuilder" (195 : Nat) ({ cls := "java/lang/AbstractStringBuilder", name := "inflate", desc := "()V" } : Jvm.MethodName)) ∈ lw_all := lw_g (lw_at lw_m2 13 rfl) rfl
theorem q348 : (Jvm.Cond.privateMethod ({ cls := "java/lang/AbstractStringBuilder", name := "inflate", desc := "()V" } : Jvm.MethodName)) ∈ lw_tbl := lw_at lw_m2 14 rfl
theorem q349 : (Jvm.Cond.instanceMethod ({ cls := "java/lang/AbstractStringBuilder", name := "inflate", desc := "()V" } : Jvm.MethodName)) ∈ lw_all := lw_g (lw_at lw_m2 15 rfl) rfl
theorem q350 : (Jvm.Cond.code ({ cls := "java/lang/AbstractStringBuilder", name := "inflate", desc := "()V" } : Jvm.MethodName) prog_34_method_11_code (2 : Nat) (Option.none : Option Jvm.ClassFile.FieldType)) ∈ lw_all := lw_g (lw_at lw_m2 16 rfl) rfl
theorem q351 : (Jvm.Cond.methodLink "java/lang/AbstractStringBuilder" (125 : Nat) ({ cls := "java/lang/StringLatin1", name := "inflate", desc := "([BI[BII)V" } : Jvm.MethodName)) ∈ lw_all := lw_g (lw_at lw_m2 17 rfl) rfl
theorem q366 : (Jvm.Cond.methodLink "java/lang/AbstractStringBuilder" (399 : Nat) ({ cls := "java/lang/String", name := "getBytes", desc := "([BIB)V" } : Jvm.MethodName)) ∈ lw_all := lw_g (lw_at lw_m2 32 rfl) rfl
theorem q377 : (Jvm.Cond.instanceMethod ({ cls := "java/lang/AbstractStringBuilder", name := "append", desc := "(I)Ljava/lang/AbstractStringBuilder;" } : Jvm.MethodName)) ∈ lw_all := lw_g (lw_at lw_m2 43 rfl) rfl
theorem q378 : (Jvm.Cond.code ({ cls := "java/lang/AbstractStringBuilder", name := "append", desc := "(I)Ljava/lang/AbstractStringBuilder;" } : Jvm.MethodName) prog_34_method_32_code (4 : Nat) (Option.some (Jvm.ClassFile.FieldType.object "java/lang/AbstractStringBuilder"))) ∈ lw_all := lw_g (lw_at lw_m2 44 rfl) rfl
theorem q379 : (Jvm.Cond.methodLink "java/lang/AbstractStringBuilder" (245 : Nat) ({ cls := "java/lang/Integer", name := "stringSize", desc := "(I)I" } : Jvm.MethodName)) ∈ lw_all := lw_g (lw_at lw_m2 45 rfl) rfl
theorem q382 : (Jvm.Cond.methodLink "java/lang/AbstractStringBuilder" (248 : Nat) ({ cls := "java/lang/Integer", name := "getChars", desc := "(II[B)I" } : Jvm.MethodName)) ∈ lw_all := lw_g (lw_at lw_m2 48 rfl) rfl
theorem q389 : (Jvm.Cond.methodLink "java/lang/AbstractStringBuilder" (251 : Nat) ({ cls := "java/lang/StringUTF16", name := "getChars", desc := "(III[B)I" } : Jvm.MethodName)) ∈ lw_all := lw_g (lw_at lw_m2 55 rfl) rfl
theorem q411 : (Jvm.Cond.instanceMethod ({ cls := "java/lang/AbstractStringBuilder", name := "getValue", desc := "()[B" } : Jvm.MethodName)) ∈ lw_all := lw_g (lw_at lw_m2 77 rfl) rfl
theorem q412 : (Jvm.Cond.sameMethod "java/lang/AbstractStringBuilder" "java/lang/AbstractStringBuilder" "getValue" "()[B") ∈ lw_all := lw_g (lw_at lw_m2 78 rfl) rfl
theorem q414 : (Jvm.Cond.code ({ cls := "java/lang/AbstractStringBuilder", name := "getValue", desc := "()[B" } : Jvm.MethodName) prog_34_method_64_code (1 : Nat) (Option.some (Jvm.ClassFile.FieldType.array Jvm.ClassFile.FieldType.byte))) ∈ lw_all := lw_g (lw_at lw_m2 80 rfl) rfl
theorem q416 : (Jvm.Cond.instanceMethod ({ cls := "java/lang/AbstractStringBuilder", name := "length", desc := "()I" } : Jvm.MethodName)) ∈ lw_all := lw_g (lw_at lw_m2 82 rfl) rfl
theorem q417 : (Jvm.Cond.sameMethod "java/lang/AbstractStringBuilder" "java/lang/AbstractStringBuilder" "length" "()I") ∈ lw_all := lw_g (lw_at lw_m2 83 rfl) rfl
theorem q422 : (Jvm.Cond.code ({ cls := "java/lang/AbstractStringBuilder", name := "length", desc := "()I" } : Jvm.MethodName) prog_34_method_6_code (1 : Nat) (Option.some Jvm.ClassFile.FieldType.int)) ∈ lw_all := lw_g (lw_at lw_m2 88 rfl) rfl
theorem q987 : (Jvm.Cond.instanceMethod ({ cls := "java/lang/AbstractStringBuilder", name := "append", desc := "(C)Ljava/lang/AbstractStringBuilder;" } : Jvm.MethodName)) ∈ lw_all := lw_g (lw_at lw_m4 173 rfl) rfl
theorem q988 : (Jvm.Cond.code ({ cls := "java/lang/AbstractStringBuilder", name := "append", desc := "(C)Ljava/lang/AbstractStringBuilder;" } : Jvm.MethodName) prog_34_method_31_code (2 : Nat) (Option.some (Jvm.ClassFile.FieldType.object "java/lang/AbstractStringBuilder"))) ∈ lw_all := lw_g (lw_at lw_m4 174 rfl) rfl
theorem q989 : (Jvm.Cond.methodLink "java/lang/AbstractStringBuilder" (191 : Nat) ({ cls := "java/lang/StringLatin1", name := "canEncode", desc := "(C)Z" } : Jvm.MethodName)) ∈ lw_all := lw_g (lw_at lw_m4 175 rfl) rfl
theorem q992 : (Jvm.Cond.methodLink "java/lang/AbstractStringBuilder" (197 : Nat) ({ cls := "java/lang/StringUTF16", name := "putCharSB", desc := "([BII)V" } : Jvm.MethodName)) ∈ lw_all := lw_g (lw_at lw_m4 178 rfl) rfl
theorem q2540 : (Jvm.Cond.sameMethod "java/lang/AbstractStringBuilder" "java/lang/AbstractStringBuilder" "append" "(Ljava/lang/String;)Ljava/lang/AbstractStringBuilder;") ∈ lw_all := lw_g (lw_at lw_m11 46 rfl) rfl
theorem q2541 : (Jvm.Cond.sameMethod "java/lang/AbstractStringBuilder" "java/lang/AbstractStringBuilder" "appendNull" "()Ljava/lang/AbstractStringBuilder;") ∈ lw_all := lw_g (lw_at lw_m11 47 rfl) rfl
theorem q2542 : (Jvm.Cond.sameMethod "java/lang/AbstractStringBuilder" "java/lang/AbstractStringBuilder" "ensureCapacityInternal" "(I)V") ∈ lw_all := lw_g (lw_at lw_m11 48 rfl) rfl
theorem q2543 : (Jvm.Cond.sameMethod "java/lang/AbstractStringBuilder" "java/lang/AbstractStringBuilder" "newCapacity" "(I)I") ∈ lw_all := lw_g (lw_at lw_m11 49 rfl) rfl
theorem q2544 : (Jvm.Cond.sameMethod "java/lang/AbstractStringBuilder" "java/lang/AbstractStringBuilder" "putStringAt" "(ILjava/lang/String;)V") ∈ lw_all := lw_g (lw_at lw_m11 50 rfl) rfl
theorem q2545 : (Jvm.Cond.sameMethod "java/lang/AbstractStringBuilder" "java/lang/AbstractStringBuilder" "inflateIfNeededFor" "(Ljava/lang/String;)V") ∈ lw_all := lw_g (lw_at lw_m11 51 rfl) rfl
theorem q2546 : (Jvm.Cond.sameMethod "java/lang/AbstractStringBuilder" "java/lang/AbstractStringBuilder" "inflate" "()V") ∈ lw_all := lw_g (lw_at lw_m11 52 rfl) rfl
theorem q2547 : (Jvm.Cond.sameMethod "java/lang/AbstractStringBuilder" "java/lang/AbstractStringBuilder" "append" "(I)Ljava/lang/AbstractStringBuilder;") ∈ lw_all := lw_g (lw_at lw_m11 53 rfl) rfl
theorem q2554 : (Jvm.Cond.sameMethod "java/lang/AbstractStringBuilder" "java/lang/AbstractStringBuilder" "append" "(C)Ljava/lang/AbstractStringBuilder;") ∈ lw_all := lw_g (lw_at lw_m11 60 rfl) rfl

/-! java/lang/StringBuilder -/
set_option maxRecDepth 100000
def RJ8 : String := "java/lang/StringBuilder"
def TJ8 : u_T := fun k => match k with
  | 0 => ("java/lang/AbstractStringBuilder", "value", "[B", false)
  | 1 => ("java/lang/AbstractStringBuilder", "coder", "B", false)
  | 2 => ("java/lang/AbstractStringBuilder", "maybeLatin1", "Z", false)
  | _ => ("java/lang/AbstractStringBuilder", "count", "I", false)
def tyJ8 : Nat → FieldType := fun k => match k with
  | 0 => .array .byte
  | 1 => .byte
  | 2 => .boolean
  | _ => .int
abbrev wsJ80 : List Cond := u_ws RJ8 TJ8 4
theorem nmJ8 : ∀ a, a < 4 → ∀ b, b < 4 → a ≠ b → (TJ8 a).2.1 ≠ (TJ8 b).2.1 := by decide +kernel
theorem tyJ8_ok : ∀ k, k < 4 → parseFieldDescriptor (TJ8 k).2.2.1 = some (tyJ8 k) := by decide +kernel
abbrev cJ8_init : ByteArray := prog_47_method_1_code
def yJ8_init : MethodName := ⟨RJ8, "<init>", "()V"⟩
abbrev cJ8_append : ByteArray := prog_47_method_7_code
def yJ8_append : MethodName := ⟨RJ8, "append", "(Ljava/lang/String;)Ljava/lang/StringBuilder;"⟩
abbrev cJ8_append_2 : ByteArray := prog_47_method_15_code
def yJ8_append_2 : MethodName := ⟨RJ8, "append", "(I)Ljava/lang/StringBuilder;"⟩
abbrev cJ8_toString : ByteArray := prog_47_method_42_code
def yJ8_toString : MethodName := ⟨RJ8, "toString", "()Ljava/lang/String;"⟩
abbrev cJ8_length : ByteArray := prog_47_method_93_code
def yJ8_length : MethodName := ⟨RJ8, "length", "()I"⟩
abbrev cJ8_append_3 : ByteArray := prog_47_method_14_code
def yJ8_append_3 : MethodName := ⟨RJ8, "append", "(C)Ljava/lang/StringBuilder;"⟩
theorem q105 : (Jvm.Cond.initialized "java/lang/StringBuilder") ∈ lw_all := lw_g (lw_at lw_m1 11 rfl) rfl
theorem q219 : (Jvm.Cond.instantiable "java/lang/StringBuilder" (4 : Nat)) ∈ lw_all := lw_g (lw_at lw_m1 125 rfl) rfl
theorem q221 : (Jvm.Cond.instanceMethod ({ cls := "java/lang/StringBuilder", name := "<init>", desc := "()V" } : Jvm.MethodName)) ∈ lw_all := lw_g (lw_at lw_m1 127 rfl) rfl
theorem q222 : (Jvm.Cond.code ({ cls := "java/lang/StringBuilder", name := "<init>", desc := "()V" } : Jvm.MethodName) prog_47_method_1_code (1 : Nat) (Option.none : Option Jvm.ClassFile.FieldType)) ∈ lw_all := lw_g (lw_at lw_m1 128 rfl) rfl
theorem q223 : (Jvm.Cond.methodLink "java/lang/StringBuilder" (1 : Nat) ({ cls := "java/lang/AbstractStringBuilder", name := "<init>", desc := "(I)V" } : Jvm.MethodName)) ∈ lw_all := lw_g (lw_at lw_m1 129 rfl) rfl
theorem q240 : (Jvm.Cond.lays "java/lang/StringBuilder" "java/lang/AbstractStringBuilder" "value" "[B") ∈ lw_all := lw_g (lw_at lw_m1 146 rfl) rfl
theorem q242 : (Jvm.Cond.lays "java/lang/StringBuilder" "java/lang/AbstractStringBuilder" "coder" "B") ∈ lw_all := lw_g (lw_at lw_m1 148 rfl) rfl
theorem q244 : (Jvm.Cond.lays "java/lang/StringBuilder" "java/lang/AbstractStringBuilder" "maybeLatin1" "Z") ∈ lw_all := lw_g (lw_at lw_m1 150 rfl) rfl
theorem q246 : (Jvm.Cond.lays "java/lang/StringBuilder" "java/lang/AbstractStringBuilder" "count" "I") ∈ lw_all := lw_g (lw_at lw_m1 152 rfl) rfl
theorem q248 : (Jvm.Cond.superclass "java/lang/StringBuilder" "java/lang/AbstractStringBuilder") ∈ lw_all := lw_g (lw_at lw_m1 154 rfl) rfl
theorem q253 : (Jvm.Cond.instanceMethod ({ cls := "java/lang/StringBuilder", name := "append", desc := "(Ljava/lang/String;)Ljava/lang/StringBuilder;" } : Jvm.MethodName)) ∈ lw_all := lw_g (lw_at lw_m1 159 rfl) rfl
theorem q254 : (Jvm.Cond.selects "java/lang/StringBuilder" ({ cls := "java/lang/StringBuilder", name := "append", desc := "(Ljava/lang/String;)Ljava/lang/StringBuilder;" } : Jvm.MethodName) ({ cls := "java/lang/StringBuilder", name := "append", desc := "(Ljava/lang/String;)Ljava/lang/StringBuilder;" } : Jvm.MethodName)) ∈ lw_all := lw_g (lw_at lw_m1 160 rfl) rfl
theorem q255 : (Jvm.Cond.code ({ cls := "java/lang/StringBuilder", name := "append", desc := "(Ljava/lang/String;)Ljava/lang/StringBuilder;" } : Jvm.MethodName) prog_47_method_7_code (2 : Nat) (Option.some (Jvm.ClassFile.FieldType.object "java/lang/StringBuilder"))) ∈ lw_all := lw_g (lw_at lw_m1 161 rfl) rfl
theorem q256 : (Jvm.Cond.methodLink "java/lang/StringBuilder" (29 : Nat) ({ cls := "java/lang/AbstractStringBuilder", name := "append", desc := "(Ljava/lang/String;)Ljava/lang/AbstractStringBuilder;" } : Jvm.MethodName)) ∈ lw_all := lw_g (lw_at lw_m1 162 rfl) rfl
theorem q301 : (Jvm.Cond.selects "java/lang/StringBuilder" ({ cls := "java/lang/AbstractStringBuilder", name := "isLatin1", desc := "()Z" } : Jvm.MethodName) ({ cls := "java/lang/AbstractStringBuilder", name := "isLatin1", desc := "()Z" } : Jvm.MethodName)) ∈ lw_all := lw_g (lw_at lw_m1 207 rfl) rfl
theorem q373 : (Jvm.Cond.instanceMethod ({ cls := "java/lang/StringBuilder", name := "append", desc := "(I)Ljava/lang/StringBuilder;" } : Jvm.MethodName)) ∈ lw_all := lw_g (lw_at lw_m2 39 rfl) rfl
theorem q374 : (Jvm.Cond.selects "java/lang/StringBuilder" ({ cls := "java/lang/StringBuilder", name := "append", desc := "(I)Ljava/lang/StringBuilder;" } : Jvm.MethodName) ({ cls := "java/lang/StringBuilder", name := "append", desc := "(I)Ljava/lang/StringBuilder;" } : Jvm.MethodName)) ∈ lw_all := lw_g (lw_at lw_m2 40 rfl) rfl
theorem q375 : (Jvm.Cond.code ({ cls := "java/lang/StringBuilder", name := "append", desc := "(I)Ljava/lang/StringBuilder;" } : Jvm.MethodName) prog_47_method_15_code (2 : Nat) (Option.some (Jvm.ClassFile.FieldType.object "java/lang/StringBuilder"))) ∈ lw_all := lw_g (lw_at lw_m2 41 rfl) rfl
theorem q376 : (Jvm.Cond.methodLink "java/lang/StringBuilder" (53 : Nat) ({ cls := "java/lang/AbstractStringBuilder", name := "append", desc := "(I)Ljava/lang/AbstractStringBuilder;" } : Jvm.MethodName)) ∈ lw_all := lw_g (lw_at lw_m2 42 rfl) rfl
theorem q398 : (Jvm.Cond.instanceMethod ({ cls := "java/lang/StringBuilder", name := "toString", desc := "()Ljava/lang/String;" } : Jvm.MethodName)) ∈ lw_all := lw_g (lw_at lw_m2 64 rfl) rfl
theorem q399 : (Jvm.Cond.selects "java/lang/StringBuilder" ({ cls := "java/lang/StringBuilder", name := "toString", desc := "()Ljava/lang/String;" } : Jvm.MethodName) ({ cls := "java/lang/StringBuilder", name := "toString", desc := "()Ljava/lang/String;" } : Jvm.MethodName)) ∈ lw_all := lw_g (lw_at lw_m2 65 rfl) rfl
theorem q400 : (Jvm.Cond.code ({ cls := "java/lang/StringBuilder", name := "toString", desc := "()Ljava/lang/String;" } : Jvm.MethodName) prog_47_method_42_code (1 : Nat) (Option.some (Jvm.ClassFile.FieldType.object "java/lang/String"))) ∈ lw_all := lw_g (lw_at lw_m2 66 rfl) rfl
theorem q401 : (Jvm.Cond.classLink "java/lang/StringBuilder" (18 : Nat) "java/lang/String") ∈ lw_all := lw_g (lw_at lw_m2 67 rfl) rfl
theorem q403 : (Jvm.Cond.methodLink "java/lang/StringBuilder" (137 : Nat) ({ cls := "java/lang/String", name := "<init>", desc := "(Ljava/lang/StringBuilder;)V" } : Jvm.MethodName)) ∈ lw_all := lw_g (lw_at lw_m2 69 rfl) rfl
theorem q413 : (Jvm.Cond.selects "java/lang/StringBuilder" ({ cls := "java/lang/AbstractStringBuilder", name := "getValue", desc := "()[B" } : Jvm.MethodName) ({ cls := "java/lang/AbstractStringBuilder", name := "getValue", desc := "()[B" } : Jvm.MethodName)) ∈ lw_all := lw_g (lw_at lw_m2 79 rfl) rfl
theorem q418 : (Jvm.Cond.selects "java/lang/StringBuilder" ({ cls := "java/lang/AbstractStringBuilder", name := "length", desc := "()I" } : Jvm.MethodName) ({ cls := "java/lang/StringBuilder", name := "length", desc := "()I" } : Jvm.MethodName)) ∈ lw_all := lw_g (lw_at lw_m2 84 rfl) rfl
theorem q419 : (Jvm.Cond.instanceMethod ({ cls := "java/lang/StringBuilder", name := "length", desc := "()I" } : Jvm.MethodName)) ∈ lw_all := lw_g (lw_at lw_m2 85 rfl) rfl
theorem q420 : (Jvm.Cond.code ({ cls := "java/lang/StringBuilder", name := "length", desc := "()I" } : Jvm.MethodName) prog_47_method_93_code (1 : Nat) (Option.some Jvm.ClassFile.FieldType.int)) ∈ lw_all := lw_g (lw_at lw_m2 86 rfl) rfl
theorem q421 : (Jvm.Cond.methodLink "java/lang/StringBuilder" (343 : Nat) ({ cls := "java/lang/AbstractStringBuilder", name := "length", desc := "()I" } : Jvm.MethodName)) ∈ lw_all := lw_g (lw_at lw_m2 87 rfl) rfl
theorem q717 : (Jvm.Cond.selects "java/lang/StringBuilder" ({ cls := "java/lang/Object", name := "getClass", desc := "()Ljava/lang/Class;" } : Jvm.MethodName) ({ cls := "java/lang/Object", name := "getClass", desc := "()Ljava/lang/Class;" } : Jvm.MethodName)) ∈ lw_all := lw_g (lw_at lw_m3 143 rfl) rfl
theorem q983 : (Jvm.Cond.instanceMethod ({ cls := "java/lang/StringBuilder", name := "append", desc := "(C)Ljava/lang/StringBuilder;" } : Jvm.MethodName)) ∈ lw_all := lw_g (lw_at lw_m4 169 rfl) rfl
theorem q984 : (Jvm.Cond.selects "java/lang/StringBuilder" ({ cls := "java/lang/StringBuilder", name := "append", desc := "(C)Ljava/lang/StringBuilder;" } : Jvm.MethodName) ({ cls := "java/lang/StringBuilder", name := "append", desc := "(C)Ljava/lang/StringBuilder;" } : Jvm.MethodName)) ∈ lw_all := lw_g (lw_at lw_m4 170 rfl) rfl
theorem q985 : (Jvm.Cond.code ({ cls := "java/lang/StringBuilder", name := "append", desc := "(C)Ljava/lang/StringBuilder;" } : Jvm.MethodName) prog_47_method_14_code (2 : Nat) (Option.some (Jvm.ClassFile.FieldType.object "java/lang/StringBuilder"))) ∈ lw_all := lw_g (lw_at lw_m4 171 rfl) rfl
theorem q986 : (Jvm.Cond.methodLink "java/lang/StringBuilder" (50 : Nat) ({ cls := "java/lang/AbstractStringBuilder", name := "append", desc := "(C)Ljava/lang/AbstractStringBuilder;" } : Jvm.MethodName)) ∈ lw_all := lw_g (lw_at lw_m4 172 rfl) rfl
theorem q2553 : (Jvm.Cond.selects "java/lang/StringBuilder" ({ cls := "java/lang/StringBuilder", name := "length", desc := "()I" } : Jvm.MethodName) ({ cls := "java/lang/StringBuilder", name := "length", desc := "()I" } : Jvm.MethodName)) ∈ lw_all := lw_g (lw_at lw_m11 59 rfl) rfl
theorem q2572 : (Jvm.Cond.castable "java/lang/StringBuilder" "java/lang/Object") ∈ lw_tbl := lw_at lw_m11 78 rfl
theorem in_J8 : ∀ w ∈ wsJ80, w ∈ lw_all := lw_in wsJ80 [240, 242, 244, 246] (by decide +kernel) (by decide +kernel)

/-! java/lang/String -/
set_option maxRecDepth 100000
def RJ9 : String := "java/lang/String"
def TJ9 : u_T := fun k => match k with
  | 0 => ("java/lang/String", "value", "[B", true)
  | 1 => ("java/lang/String", "coder", "B", true)
  | 2 => ("java/lang/String", "hash", "I", false)
  | _ => ("java/lang/String", "hashIsZero", "Z", false)
def tyJ9 : Nat → FieldType := fun k => match k with
  | 0 => .array .byte
  | 1 => .byte
  | 2 => .int
  | _ => .boolean
abbrev wsJ90 : List Cond := u_ws RJ9 TJ9 4
theorem nmJ9 : ∀ a, a < 4 → ∀ b, b < 4 → a ≠ b → (TJ9 a).2.1 ≠ (TJ9 b).2.1 := by decide +kernel
theorem tyJ9_ok : ∀ k, k < 4 → parseFieldDescriptor (TJ9 k).2.2.1 = some (tyJ9 k) := by decide +kernel
abbrev cJ9_checkBoundsBeginEnd : ByteArray := prog_46_method_158_code
def yJ9_checkBoundsBeginEnd : MethodName := ⟨RJ9, "checkBoundsBeginEnd", "(III)V"⟩
abbrev cJ9_length : ByteArray := prog_46_method_54_code
def yJ9_length : MethodName := ⟨RJ9, "length", "()I"⟩
abbrev cJ9_coder : ByteArray := prog_46_method_152_code
def yJ9_coder : MethodName := ⟨RJ9, "coder", "()B"⟩
abbrev cJ9_checkBoundsOffCount : ByteArray := prog_46_method_157_code
def yJ9_checkBoundsOffCount : MethodName := ⟨RJ9, "checkBoundsOffCount", "(III)I"⟩
abbrev cJ9_getBytes : ByteArray := prog_46_method_147_code
def yJ9_getBytes : MethodName := ⟨RJ9, "getBytes", "([BIB)V"⟩
abbrev cJ9_init : ByteArray := prog_46_method_53_code
def yJ9_init : MethodName := ⟨RJ9, "<init>", "(Ljava/lang/StringBuilder;)V"⟩
abbrev cJ9_init_2 : ByteArray := prog_46_method_150_code
def yJ9_init_2 : MethodName := ⟨RJ9, "<init>", "(Ljava/lang/AbstractStringBuilder;Ljava/lang/Void;)V"⟩
abbrev cJ9_checkIndex : ByteArray := prog_46_method_155_code
def yJ9_checkIndex : MethodName := ⟨RJ9, "checkIndex", "(II)V"⟩
abbrev cJ9_hashCode : ByteArray := prog_46_method_78_code
def yJ9_hashCode : MethodName := ⟨RJ9, "hashCode", "()I"⟩
abbrev cJ9_isLatin1 : ByteArray := prog_46_method_154_code
def yJ9_isLatin1 : MethodName := ⟨RJ9, "isLatin1", "()Z"⟩
abbrev cJ9_equals : ByteArray := prog_46_method_66_code
def yJ9_equals : MethodName := ⟨RJ9, "equals", "(Ljava/lang/Object;)Z"⟩
theorem q106 : (Jvm.Cond.initialized "java/lang/String") ∈ lw_all := lw_g (lw_at lw_m1 12 rfl) rfl
theorem q228 : (Jvm.Cond.laysStatic "java/lang/String" "COMPACT_STRINGS" "Z") ∈ lw_tbl := lw_at lw_m1 134 rfl
theorem q238 : (Jvm.Cond.fieldLink "java/lang/String" (1048 : Nat) "java/lang/AbstractStringBuilder" "maybeLatin1" "Z") ∈ lw_all := lw_g (lw_at lw_m1 144 rfl) rfl
theorem q313 : (Jvm.Cond.static ({ cls := "java/lang/String", name := "checkBoundsBeginEnd", desc := "(III)V" } : Jvm.MethodName)) ∈ lw_all := lw_g (lw_at lw_m1 219 rfl) rfl
theorem q314 : (Jvm.Cond.code ({ cls := "java/lang/String", name := "checkBoundsBeginEnd", desc := "(III)V" } : Jvm.MethodName) prog_46_method_158_code (3 : Nat) (Option.none : Option Jvm.ClassFile.FieldType)) ∈ lw_all := lw_g (lw_at lw_m1 220 rfl) rfl
theorem q315 : (Jvm.Cond.fieldLink "java/lang/String" (1053 : Nat) "jdk/internal/util/Preconditions" "SIOOBE_FORMATTER" "Ljava/util/function/BiFunction;") ∈ lw_all := lw_g (lw_at lw_m1 221 rfl) rfl
theorem q317 : (Jvm.Cond.methodLink "java/lang/String" (1062 : Nat) ({ cls := "jdk/internal/util/Preconditions", name := "checkFromToIndex", desc := "(IIILjava/util/function/BiFunction;)I" } : Jvm.MethodName)) ∈ lw_all := lw_g (lw_at lw_m1 223 rfl) rfl
theorem q330 : (Jvm.Cond.instanceMethod ({ cls := "java/lang/String", name := "length", desc := "()I" } : Jvm.MethodName)) ∈ lw_all := lw_g (lw_at lw_m1 236 rfl) rfl
theorem q331 : (Jvm.Cond.selects "java/lang/String" ({ cls := "java/lang/String", name := "length", desc := "()I" } : Jvm.MethodName) ({ cls := "java/lang/String", name := "length", desc := "()I" } : Jvm.MethodName)) ∈ lw_all := lw_g (lw_at lw_m1 237 rfl) rfl
theorem q332 : (Jvm.Cond.code ({ cls := "java/lang/String", name := "length", desc := "()I" } : Jvm.MethodName) prog_46_method_54_code (1 : Nat) (Option.some Jvm.ClassFile.FieldType.int)) ∈ lw_all := lw_g (lw_at lw_m1 238 rfl) rfl
theorem q333 : (Jvm.Cond.methodLink "java/lang/String" (335 : Nat) ({ cls := "java/lang/String", name := "coder", desc := "()B" } : Jvm.MethodName)) ∈ lw_all := lw_g (lw_at lw_m1 239 rfl) rfl
theorem q334 : (Jvm.Cond.instanceMethod ({ cls := "java/lang/String", name := "coder", desc := "()B" } : Jvm.MethodName)) ∈ lw_all := lw_g (lw_at lw_m2 0 rfl) rfl
theorem q335 : (Jvm.Cond.selects "java/lang/String" ({ cls := "java/lang/String", name := "coder", desc := "()B" } : Jvm.MethodName) ({ cls := "java/lang/String", name := "coder", desc := "()B" } : Jvm.MethodName)) ∈ lw_all := lw_g (lw_at lw_m2 1 rfl) rfl
theorem q336 : (Jvm.Cond.code ({ cls := "java/lang/String", name := "coder", desc := "()B" } : Jvm.MethodName) prog_46_method_152_code (1 : Nat) (Option.some Jvm.ClassFile.FieldType.byte)) ∈ lw_all := lw_g (lw_at lw_m2 2 rfl) rfl
theorem q337 : (Jvm.Cond.fieldLink "java/lang/String" (38 : Nat) "java/lang/String" "COMPACT_STRINGS" "Z") ∈ lw_all := lw_g (lw_at lw_m2 3 rfl) rfl
theorem q361 : (Jvm.Cond.static ({ cls := "java/lang/String", name := "checkBoundsOffCount", desc := "(III)I" } : Jvm.MethodName)) ∈ lw_all := lw_g (lw_at lw_m2 27 rfl) rfl
theorem q362 : (Jvm.Cond.code ({ cls := "java/lang/String", name := "checkBoundsOffCount", desc := "(III)I" } : Jvm.MethodName) prog_46_method_157_code (3 : Nat) (Option.some Jvm.ClassFile.FieldType.int)) ∈ lw_all := lw_g (lw_at lw_m2 28 rfl) rfl
theorem q363 : (Jvm.Cond.methodLink "java/lang/String" (1065 : Nat) ({ cls := "jdk/internal/util/Preconditions", name := "checkFromIndexSize", desc := "(IIILjava/util/function/BiFunction;)I" } : Jvm.MethodName)) ∈ lw_all := lw_g (lw_at lw_m2 29 rfl) rfl
theorem q367 : (Jvm.Cond.instanceMethod ({ cls := "java/lang/String", name := "getBytes", desc := "([BIB)V" } : Jvm.MethodName)) ∈ lw_all := lw_g (lw_at lw_m2 33 rfl) rfl
theorem q368 : (Jvm.Cond.selects "java/lang/String" ({ cls := "java/lang/String", name := "getBytes", desc := "([BIB)V" } : Jvm.MethodName) ({ cls := "java/lang/String", name := "getBytes", desc := "([BIB)V" } : Jvm.MethodName)) ∈ lw_all := lw_g (lw_at lw_m2 34 rfl) rfl
theorem q369 : (Jvm.Cond.code ({ cls := "java/lang/String", name := "getBytes", desc := "([BIB)V" } : Jvm.MethodName) prog_46_method_147_code (4 : Nat) (Option.none : Option Jvm.ClassFile.FieldType)) ∈ lw_all := lw_g (lw_at lw_m2 35 rfl) rfl
theorem q370 : (Jvm.Cond.methodLink "java/lang/String" (212 : Nat) ({ cls := "java/lang/System", name := "arraycopy", desc := "(Ljava/lang/Object;ILjava/lang/Object;II)V" } : Jvm.MethodName)) ∈ lw_all := lw_g (lw_at lw_m2 36 rfl) rfl
theorem q371 : (Jvm.Cond.methodLink "java/lang/String" (106 : Nat) ({ cls := "java/lang/StringLatin1", name := "inflate", desc := "([BI[BII)V" } : Jvm.MethodName)) ∈ lw_all := lw_g (lw_at lw_m2 37 rfl) rfl
theorem q402 : (Jvm.Cond.instantiable "java/lang/String" (4 : Nat)) ∈ lw_all := lw_g (lw_at lw_m2 68 rfl) rfl
theorem q404 : (Jvm.Cond.instanceMethod ({ cls := "java/lang/String", name := "<init>", desc := "(Ljava/lang/StringBuilder;)V" } : Jvm.MethodName)) ∈ lw_all := lw_g (lw_at lw_m2 70 rfl) rfl
theorem q405 : (Jvm.Cond.code ({ cls := "java/lang/String", name := "<init>", desc := "(Ljava/lang/StringBuilder;)V" } : Jvm.MethodName) prog_46_method_53_code (2 : Nat) (Option.none : Option Jvm.ClassFile.FieldType)) ∈ lw_all := lw_g (lw_at lw_m2 71 rfl) rfl
theorem q406 : (Jvm.Cond.methodLink "java/lang/String" (489 : Nat) ({ cls := "java/lang/String", name := "<init>", desc := "(Ljava/lang/AbstractStringBuilder;Ljava/lang/Void;)V" } : Jvm.MethodName)) ∈ lw_all := lw_g (lw_at lw_m2 72 rfl) rfl
theorem q407 : (Jvm.Cond.instanceMethod ({ cls := "java/lang/String", name := "<init>", desc := "(Ljava/lang/AbstractStringBuilder;Ljava/lang/Void;)V" } : Jvm.MethodName)) ∈ lw_all := lw_g (lw_at lw_m2 73 rfl) rfl
theorem q408 : (Jvm.Cond.code ({ cls := "java/lang/String", name := "<init>", desc := "(Ljava/lang/AbstractStringBuilder;Ljava/lang/Void;)V" } : Jvm.MethodName) prog_46_method_150_code (5 : Nat) (Option.none : Option Jvm.ClassFile.FieldType)) ∈ lw_all := lw_g (lw_at lw_m2 74 rfl) rfl
theorem q409 : (Jvm.Cond.methodLink "java/lang/String" (1 : Nat) ({ cls := "java/lang/Object", name := "<init>", desc := "()V" } : Jvm.MethodName)) ∈ lw_all := lw_g (lw_at lw_m2 75 rfl) rfl
theorem q410 : (Jvm.Cond.methodLink "java/lang/String" (552 : Nat) ({ cls := "java/lang/AbstractStringBuilder", name := "getValue", desc := "()[B" } : Jvm.MethodName)) ∈ lw_all := lw_g (lw_at lw_m2 76 rfl) rfl
theorem q415 : (Jvm.Cond.methodLink "java/lang/String" (549 : Nat) ({ cls := "java/lang/AbstractStringBuilder", name := "length", desc := "()I" } : Jvm.MethodName)) ∈ lw_all := lw_g (lw_at lw_m2 81 rfl) rfl
theorem q423 : (Jvm.Cond.methodLink "java/lang/String" (1047 : Nat) ({ cls := "java/lang/AbstractStringBuilder", name := "isLatin1", desc := "()Z" } : Jvm.MethodName)) ∈ lw_all := lw_g (lw_at lw_m2 89 rfl) rfl
theorem q424 : (Jvm.Cond.methodLink "java/lang/String" (54 : Nat) ({ cls := "java/util/Arrays", name := "copyOfRange", desc := "([BII)[B" } : Jvm.MethodName)) ∈ lw_all := lw_g (lw_at lw_m2 90 rfl) rfl
theorem q465 : (Jvm.Cond.methodLink "java/lang/String" (1051 : Nat) ({ cls := "java/lang/StringUTF16", name := "compress", desc := "([BII)[B" } : Jvm.MethodName)) ∈ lw_all := lw_g (lw_at lw_m2 131 rfl) rfl
theorem q475 : (Jvm.Cond.methodLink "java/lang/String" (47 : Nat) ({ cls := "java/lang/StringUTF16", name := "coderFromArrayLen", desc := "([BI)B" } : Jvm.MethodName)) ∈ lw_all := lw_g (lw_at lw_m2 141 rfl) rfl
theorem q478 : (Jvm.Cond.fieldLink "java/lang/String" (9 : Nat) "java/lang/String" "value" "[B") ∈ lw_all := lw_g (lw_at lw_m2 144 rfl) rfl
theorem q479 : (Jvm.Cond.fieldLink "java/lang/String" (15 : Nat) "java/lang/String" "coder" "B") ∈ lw_all := lw_g (lw_at lw_m2 145 rfl) rfl
theorem q480 : (Jvm.Cond.fieldLink "java/lang/String" (19 : Nat) "java/lang/String" "hash" "I") ∈ lw_all := lw_g (lw_at lw_m2 146 rfl) rfl
theorem q481 : (Jvm.Cond.fieldLink "java/lang/String" (23 : Nat) "java/lang/String" "hashIsZero" "Z") ∈ lw_all := lw_g (lw_at lw_m2 147 rfl) rfl
theorem q482 : (Jvm.Cond.laysFinal "java/lang/String" "java/lang/String" "value" "[B") ∈ lw_all := lw_g (lw_at lw_m2 148 rfl) rfl
theorem q483 : (Jvm.Cond.soleField "java/lang/String" "value") ∈ lw_all := lw_g (lw_at lw_m2 149 rfl) rfl
theorem q484 : (Jvm.Cond.laysFinal "java/lang/String" "java/lang/String" "coder" "B") ∈ lw_all := lw_g (lw_at lw_m2 150 rfl) rfl
theorem q485 : (Jvm.Cond.soleField "java/lang/String" "coder") ∈ lw_all := lw_g (lw_at lw_m2 151 rfl) rfl
theorem q486 : (Jvm.Cond.lays "java/lang/String" "java/lang/String" "hash" "I") ∈ lw_all := lw_g (lw_at lw_m2 152 rfl) rfl
theorem q487 : (Jvm.Cond.soleField "java/lang/String" "hash") ∈ lw_all := lw_g (lw_at lw_m2 153 rfl) rfl
theorem q488 : (Jvm.Cond.lays "java/lang/String" "java/lang/String" "hashIsZero" "Z") ∈ lw_all := lw_g (lw_at lw_m2 154 rfl) rfl
theorem q489 : (Jvm.Cond.soleField "java/lang/String" "hashIsZero") ∈ lw_all := lw_g (lw_at lw_m2 155 rfl) rfl
theorem q490 : (Jvm.Cond.superclass "java/lang/String" "java/lang/Object") ∈ lw_all := lw_g (lw_at lw_m2 156 rfl) rfl
theorem q716 : (Jvm.Cond.selects "java/lang/String" ({ cls := "java/lang/Object", name := "getClass", desc := "()Ljava/lang/Class;" } : Jvm.MethodName) ({ cls := "java/lang/Object", name := "getClass", desc := "()Ljava/lang/Class;" } : Jvm.MethodName)) ∈ lw_all := lw_g (lw_at lw_m3 142 rfl) rfl
theorem q999 : (Jvm.Cond.static ({ cls := "java/lang/String", name := "checkIndex", desc := "(II)V" } : Jvm.MethodName)) ∈ lw_all := lw_g (lw_at lw_m4 185 rfl) rfl
theorem q1000 : (Jvm.Cond.code ({ cls := "java/lang/String", name := "checkIndex", desc := "(II)V" } : Jvm.MethodName) prog_46_method_155_code (2 : Nat) (Option.none : Option Jvm.ClassFile.FieldType)) ∈ lw_all := lw_g (lw_at lw_m4 186 rfl) rfl
theorem q1001 : (Jvm.Cond.methodLink "java/lang/String" (1059 : Nat) ({ cls := "jdk/internal/util/Preconditions", name := "checkIndex", desc := "(IILjava/util/function/BiFunction;)I" } : Jvm.MethodName)) ∈ lw_all := lw_g (lw_at lw_m4 187 rfl) rfl
theorem q1008 : (Jvm.Cond.instanceMethod ({ cls := "java/lang/String", name := "hashCode", desc := "()I" } : Jvm.MethodName)) ∈ lw_all := lw_g (lw_at lw_m4 194 rfl) rfl
theorem q1009 : (Jvm.Cond.selects "java/lang/String" ({ cls := "java/lang/String", name := "hashCode", desc := "()I" } : Jvm.MethodName) ({ cls := "java/lang/String", name := "hashCode", desc := "()I" } : Jvm.MethodName)) ∈ lw_all := lw_g (lw_at lw_m4 195 rfl) rfl
theorem q1010 : (Jvm.Cond.code ({ cls := "java/lang/String", name := "hashCode", desc := "()I" } : Jvm.MethodName) prog_46_method_78_code (2 : Nat) (Option.some Jvm.ClassFile.FieldType.int)) ∈ lw_all := lw_g (lw_at lw_m4 196 rfl) rfl
theorem q1011 : (Jvm.Cond.methodLink "java/lang/String" (492 : Nat) ({ cls := "java/lang/String", name := "isLatin1", desc := "()Z" } : Jvm.MethodName)) ∈ lw_all := lw_g (lw_at lw_m4 197 rfl) rfl
theorem q1012 : (Jvm.Cond.instanceMethod ({ cls := "java/lang/String", name := "isLatin1", desc := "()Z" } : Jvm.MethodName)) ∈ lw_all := lw_g (lw_at lw_m4 198 rfl) rfl
theorem q1013 : (Jvm.Cond.selects "java/lang/String" ({ cls := "java/lang/String", name := "isLatin1", desc := "()Z" } : Jvm.MethodName) ({ cls := "java/lang/String", name := "isLatin1", desc := "()Z" } : Jvm.MethodName)) ∈ lw_all := lw_g (lw_at lw_m4 199 rfl) rfl
theorem q1014 : (Jvm.Cond.code ({ cls := "java/lang/String", name := "isLatin1", desc := "()Z" } : Jvm.MethodName) prog_46_method_154_code (1 : Nat) (Option.some Jvm.ClassFile.FieldType.boolean)) ∈ lw_all := lw_g (lw_at lw_m4 200 rfl) rfl
theorem q1015 : (Jvm.Cond.methodLink "java/lang/String" (628 : Nat) ({ cls := "java/lang/StringLatin1", name := "hashCode", desc := "([B)I" } : Jvm.MethodName)) ∈ lw_all := lw_g (lw_at lw_m4 201 rfl) rfl
theorem q1064 : (Jvm.Cond.methodLink "java/lang/String" (632 : Nat) ({ cls := "java/lang/StringUTF16", name := "hashCode", desc := "([B)I" } : Jvm.MethodName)) ∈ lw_all := lw_g (lw_at lw_m5 10 rfl) rfl
theorem q1070 : (Jvm.Cond.instanceMethod ({ cls := "java/lang/String", name := "equals", desc := "(Ljava/lang/Object;)Z" } : Jvm.MethodName)) ∈ lw_all := lw_g (lw_at lw_m5 16 rfl) rfl
theorem q1071 : (Jvm.Cond.selects "java/lang/String" ({ cls := "java/lang/String", name := "equals", desc := "(Ljava/lang/Object;)Z" } : Jvm.MethodName) ({ cls := "java/lang/String", name := "equals", desc := "(Ljava/lang/Object;)Z" } : Jvm.MethodName)) ∈ lw_all := lw_g (lw_at lw_m5 17 rfl) rfl
theorem q1072 : (Jvm.Cond.code ({ cls := "java/lang/String", name := "equals", desc := "(Ljava/lang/Object;)Z" } : Jvm.MethodName) prog_46_method_66_code (3 : Nat) (Option.some Jvm.ClassFile.FieldType.boolean)) ∈ lw_all := lw_g (lw_at lw_m5 18 rfl) rfl
theorem q1073 : (Jvm.Cond.classLink "java/lang/String" (10 : Nat) "java/lang/String") ∈ lw_all := lw_g (lw_at lw_m5 19 rfl) rfl
theorem q1074 : (Jvm.Cond.methodLink "java/lang/String" (541 : Nat) ({ cls := "java/lang/StringLatin1", name := "equals", desc := "([B[B)Z" } : Jvm.MethodName)) ∈ lw_all := lw_g (lw_at lw_m5 20 rfl) rfl
theorem q2573 : (Jvm.Cond.castable "java/lang/String" "java/lang/Object") ∈ lw_tbl := lw_at lw_m11 79 rfl
theorem in_J9 : ∀ w ∈ wsJ90, w ∈ lw_all := lw_in wsJ90 [482, 484, 486, 488] (by decide +kernel) (by decide +kernel)

/-! java/lang/StringUTF16 -/
set_option maxRecDepth 100000
def RJ10 : String := "java/lang/StringUTF16"
abbrev cJ10_newBytesFor : ByteArray := prog_49_method_2_code
def yJ10_newBytesFor : MethodName := ⟨RJ10, "newBytesFor", "(I)[B"⟩
abbrev cJ10_newBytesLength : ByteArray := prog_49_method_3_code
def yJ10_newBytesLength : MethodName := ⟨RJ10, "newBytesLength", "(I)I"⟩
abbrev cJ10_putCharsAt : ByteArray := prog_49_method_81_code
def yJ10_putCharsAt : MethodName := ⟨RJ10, "putCharsAt", "([BICCCC)I"⟩
abbrev cJ10_checkBoundsBeginEnd : ByteArray := prog_49_method_93_code
def yJ10_checkBoundsBeginEnd : MethodName := ⟨RJ10, "checkBoundsBeginEnd", "(II[B)V"⟩
abbrev cJ10_length : ByteArray := prog_49_method_6_code
def yJ10_length : MethodName := ⟨RJ10, "length", "([B)I"⟩
abbrev cJ10_putChar : ByteArray := prog_49_method_4_code
def yJ10_putChar : MethodName := ⟨RJ10, "putChar", "([BII)V"⟩
abbrev cJ10_inflate : ByteArray := prog_49_method_86_code
def yJ10_inflate : MethodName := ⟨RJ10, "inflate", "([BI[BII)V"⟩
abbrev cJ10_checkBoundsOffCount : ByteArray := prog_49_method_94_code
def yJ10_checkBoundsOffCount : MethodName := ⟨RJ10, "checkBoundsOffCount", "(II[B)V"⟩
abbrev cJ10_getChars : ByteArray := prog_49_method_77_code
def yJ10_getChars : MethodName := ⟨RJ10, "getChars", "(III[B)I"⟩
abbrev cJ10_getChars_2 : ByteArray := prog_49_method_89_code
def yJ10_getChars_2 : MethodName := ⟨RJ10, "getChars", "(II[B)I"⟩
abbrev cJ10_compress : ByteArray := prog_49_method_17_code
def yJ10_compress : MethodName := ⟨RJ10, "compress", "([BII)[B"⟩
abbrev cJ10_compress_2 : ByteArray := prog_49_method_22_code
def yJ10_compress_2 : MethodName := ⟨RJ10, "compress", "([BI[BII)I"⟩
abbrev cJ10_getChar : ByteArray := prog_49_method_5_code
def yJ10_getChar : MethodName := ⟨RJ10, "getChar", "([BI)C"⟩
abbrev cJ10_coderFromArrayLen : ByteArray := prog_49_method_15_code
def yJ10_coderFromArrayLen : MethodName := ⟨RJ10, "coderFromArrayLen", "([BI)B"⟩
abbrev cJ10_putCharSB : ByteArray := prog_49_method_71_code
def yJ10_putCharSB : MethodName := ⟨RJ10, "putCharSB", "([BII)V"⟩
abbrev cJ10_checkIndex : ByteArray := prog_49_method_91_code
def yJ10_checkIndex : MethodName := ⟨RJ10, "checkIndex", "(I[B)V"⟩
abbrev cJ10_hashCode : ByteArray := prog_49_method_39_code
def yJ10_hashCode : MethodName := ⟨RJ10, "hashCode", "([B)I"⟩
theorem q107 : (Jvm.Cond.initialized "java/lang/StringUTF16") ∈ lw_all := lw_g (lw_at lw_m1 13 rfl) rfl
theorem q230 : (Jvm.Cond.static ({ cls := "java/lang/StringUTF16", name := "newBytesFor", desc := "(I)[B" } : Jvm.MethodName)) ∈ lw_all := lw_g (lw_at lw_m1 136 rfl) rfl
theorem q231 : (Jvm.Cond.code ({ cls := "java/lang/StringUTF16", name := "newBytesFor", desc := "(I)[B" } : Jvm.MethodName) prog_49_method_2_code (1 : Nat) (Option.some (Jvm.ClassFile.FieldType.array Jvm.ClassFile.FieldType.byte))) ∈ lw_all := lw_g (lw_at lw_m1 137 rfl) rfl
theorem q232 : (Jvm.Cond.methodLink "java/lang/StringUTF16" (11 : Nat) ({ cls := "java/lang/StringUTF16", name := "newBytesLength", desc := "(I)I" } : Jvm.MethodName)) ∈ lw_all := lw_g (lw_at lw_m1 138 rfl) rfl
theorem q233 : (Jvm.Cond.static ({ cls := "java/lang/StringUTF16", name := "newBytesLength", desc := "(I)I" } : Jvm.MethodName)) ∈ lw_all := lw_g (lw_at lw_m1 139 rfl) rfl
theorem q234 : (Jvm.Cond.code ({ cls := "java/lang/StringUTF16", name := "newBytesLength", desc := "(I)I" } : Jvm.MethodName) prog_49_method_3_code (1 : Nat) (Option.some Jvm.ClassFile.FieldType.int)) ∈ lw_all := lw_g (lw_at lw_m1 140 rfl) rfl
theorem q235 : (Jvm.Cond.constant "java/lang/StringUTF16" (20 : Nat) (1073741823 : Int32)) ∈ lw_all := lw_g (lw_at lw_m1 141 rfl) rfl
theorem q304 : (Jvm.Cond.static ({ cls := "java/lang/StringUTF16", name := "putCharsAt", desc := "([BICCCC)I" } : Jvm.MethodName)) ∈ lw_all := lw_g (lw_at lw_m1 210 rfl) rfl
theorem q305 : (Jvm.Cond.code ({ cls := "java/lang/StringUTF16", name := "putCharsAt", desc := "([BICCCC)I" } : Jvm.MethodName) prog_49_method_81_code (7 : Nat) (Option.some Jvm.ClassFile.FieldType.int)) ∈ lw_all := lw_g (lw_at lw_m1 211 rfl) rfl
theorem q306 : (Jvm.Cond.methodLink "java/lang/StringUTF16" (96 : Nat) ({ cls := "java/lang/StringUTF16", name := "checkBoundsBeginEnd", desc := "(II[B)V" } : Jvm.MethodName)) ∈ lw_all := lw_g (lw_at lw_m1 212 rfl) rfl
theorem q307 : (Jvm.Cond.static ({ cls := "java/lang/StringUTF16", name := "checkBoundsBeginEnd", desc := "(II[B)V" } : Jvm.MethodName)) ∈ lw_all := lw_g (lw_at lw_m1 213 rfl) rfl
theorem q308 : (Jvm.Cond.code ({ cls := "java/lang/StringUTF16", name := "checkBoundsBeginEnd", desc := "(II[B)V" } : Jvm.MethodName) prog_49_method_93_code (3 : Nat) (Option.none : Option Jvm.ClassFile.FieldType)) ∈ lw_all := lw_g (lw_at lw_m1 214 rfl) rfl
theorem q309 : (Jvm.Cond.methodLink "java/lang/StringUTF16" (48 : Nat) ({ cls := "java/lang/StringUTF16", name := "length", desc := "([B)I" } : Jvm.MethodName)) ∈ lw_all := lw_g (lw_at lw_m1 215 rfl) rfl
theorem q310 : (Jvm.Cond.static ({ cls := "java/lang/StringUTF16", name := "length", desc := "([B)I" } : Jvm.MethodName)) ∈ lw_all := lw_g (lw_at lw_m1 216 rfl) rfl
theorem q311 : (Jvm.Cond.code ({ cls := "java/lang/StringUTF16", name := "length", desc := "([B)I" } : Jvm.MethodName) prog_49_method_6_code (1 : Nat) (Option.some Jvm.ClassFile.FieldType.int)) ∈ lw_all := lw_g (lw_at lw_m1 217 rfl) rfl
theorem q312 : (Jvm.Cond.methodLink "java/lang/StringUTF16" (241 : Nat) ({ cls := "java/lang/String", name := "checkBoundsBeginEnd", desc := "(III)V" } : Jvm.MethodName)) ∈ lw_all := lw_g (lw_at lw_m1 218 rfl) rfl
theorem q320 : (Jvm.Cond.methodLink "java/lang/StringUTF16" (111 : Nat) ({ cls := "java/lang/StringUTF16", name := "putChar", desc := "([BII)V" } : Jvm.MethodName)) ∈ lw_all := lw_g (lw_at lw_m1 226 rfl) rfl
theorem q321 : (Jvm.Cond.static ({ cls := "java/lang/StringUTF16", name := "putChar", desc := "([BII)V" } : Jvm.MethodName)) ∈ lw_all := lw_g (lw_at lw_m1 227 rfl) rfl
theorem q322 : (Jvm.Cond.code ({ cls := "java/lang/StringUTF16", name := "putChar", desc := "([BII)V" } : Jvm.MethodName) prog_49_method_4_code (3 : Nat) (Option.none : Option Jvm.ClassFile.FieldType)) ∈ lw_all := lw_g (lw_at lw_m1 228 rfl) rfl
theorem q323 : (Jvm.Cond.fieldLink "java/lang/StringUTF16" (44 : Nat) "java/lang/StringUTF16" "$assertionsDisabled" "Z") ∈ lw_all := lw_g (lw_at lw_m1 229 rfl) rfl
theorem q324 : (Jvm.Cond.laysStatic "java/lang/StringUTF16" "$assertionsDisabled" "Z") ∈ lw_tbl := lw_at lw_m1 230 rfl
theorem q325 : (Jvm.Cond.fieldLink "java/lang/StringUTF16" (59 : Nat) "java/lang/StringUTF16" "HI_BYTE_SHIFT" "I") ∈ lw_all := lw_g (lw_at lw_m1 231 rfl) rfl
theorem q326 : (Jvm.Cond.laysStatic "java/lang/StringUTF16" "HI_BYTE_SHIFT" "I") ∈ lw_tbl := lw_at lw_m1 232 rfl
theorem q327 : (Jvm.Cond.fieldLink "java/lang/StringUTF16" (63 : Nat) "java/lang/StringUTF16" "LO_BYTE_SHIFT" "I") ∈ lw_all := lw_g (lw_at lw_m1 233 rfl) rfl
theorem q328 : (Jvm.Cond.laysStatic "java/lang/StringUTF16" "LO_BYTE_SHIFT" "I") ∈ lw_tbl := lw_at lw_m1 234 rfl
theorem q355 : (Jvm.Cond.static ({ cls := "java/lang/StringUTF16", name := "inflate", desc := "([BI[BII)V" } : Jvm.MethodName)) ∈ lw_all := lw_g (lw_at lw_m2 21 rfl) rfl
theorem q356 : (Jvm.Cond.code ({ cls := "java/lang/StringUTF16", name := "inflate", desc := "([BI[BII)V" } : Jvm.MethodName) prog_49_method_86_code (6 : Nat) (Option.none : Option Jvm.ClassFile.FieldType)) ∈ lw_all := lw_g (lw_at lw_m2 22 rfl) rfl
theorem q357 : (Jvm.Cond.methodLink "java/lang/StringUTF16" (173 : Nat) ({ cls := "java/lang/StringUTF16", name := "checkBoundsOffCount", desc := "(II[B)V" } : Jvm.MethodName)) ∈ lw_all := lw_g (lw_at lw_m2 23 rfl) rfl
theorem q358 : (Jvm.Cond.static ({ cls := "java/lang/StringUTF16", name := "checkBoundsOffCount", desc := "(II[B)V" } : Jvm.MethodName)) ∈ lw_all := lw_g (lw_at lw_m2 24 rfl) rfl
theorem q359 : (Jvm.Cond.code ({ cls := "java/lang/StringUTF16", name := "checkBoundsOffCount", desc := "(II[B)V" } : Jvm.MethodName) prog_49_method_94_code (3 : Nat) (Option.none : Option Jvm.ClassFile.FieldType)) ∈ lw_all := lw_g (lw_at lw_m2 25 rfl) rfl
theorem q360 : (Jvm.Cond.methodLink "java/lang/StringUTF16" (419 : Nat) ({ cls := "java/lang/String", name := "checkBoundsOffCount", desc := "(III)I" } : Jvm.MethodName)) ∈ lw_all := lw_g (lw_at lw_m2 26 rfl) rfl
theorem q390 : (Jvm.Cond.static ({ cls := "java/lang/StringUTF16", name := "getChars", desc := "(III[B)I" } : Jvm.MethodName)) ∈ lw_all := lw_g (lw_at lw_m2 56 rfl) rfl
theorem q391 : (Jvm.Cond.code ({ cls := "java/lang/StringUTF16", name := "getChars", desc := "(III[B)I" } : Jvm.MethodName) prog_49_method_77_code (5 : Nat) (Option.some Jvm.ClassFile.FieldType.int)) ∈ lw_all := lw_g (lw_at lw_m2 57 rfl) rfl
theorem q392 : (Jvm.Cond.methodLink "java/lang/StringUTF16" (393 : Nat) ({ cls := "java/lang/StringUTF16", name := "getChars", desc := "(II[B)I" } : Jvm.MethodName)) ∈ lw_all := lw_g (lw_at lw_m2 58 rfl) rfl
theorem q393 : (Jvm.Cond.static ({ cls := "java/lang/StringUTF16", name := "getChars", desc := "(II[B)I" } : Jvm.MethodName)) ∈ lw_all := lw_g (lw_at lw_m2 59 rfl) rfl
theorem q394 : (Jvm.Cond.code ({ cls := "java/lang/StringUTF16", name := "getChars", desc := "(II[B)I" } : Jvm.MethodName) prog_49_method_89_code (7 : Nat) (Option.some Jvm.ClassFile.FieldType.int)) ∈ lw_all := lw_g (lw_at lw_m2 60 rfl) rfl
theorem q395 : (Jvm.Cond.fieldLink "java/lang/StringUTF16" (403 : Nat) "java/lang/Integer" "DigitOnes" "[B") ∈ lw_all := lw_g (lw_at lw_m2 61 rfl) rfl
theorem q396 : (Jvm.Cond.fieldLink "java/lang/StringUTF16" (407 : Nat) "java/lang/Integer" "DigitTens" "[B") ∈ lw_all := lw_g (lw_at lw_m2 62 rfl) rfl
theorem q466 : (Jvm.Cond.static ({ cls := "java/lang/StringUTF16", name := "compress", desc := "([BII)[B" } : Jvm.MethodName)) ∈ lw_all := lw_g (lw_at lw_m2 132 rfl) rfl
theorem q467 : (Jvm.Cond.code ({ cls := "java/lang/StringUTF16", name := "compress", desc := "([BII)[B" } : Jvm.MethodName) prog_49_method_17_code (6 : Nat) (Option.some (Jvm.ClassFile.FieldType.array Jvm.ClassFile.FieldType.byte))) ∈ lw_all := lw_g (lw_at lw_m2 133 rfl) rfl
theorem q468 : (Jvm.Cond.methodLink "java/lang/StringUTF16" (123 : Nat) ({ cls := "java/lang/StringUTF16", name := "compress", desc := "([BI[BII)I" } : Jvm.MethodName)) ∈ lw_all := lw_g (lw_at lw_m2 134 rfl) rfl
theorem q469 : (Jvm.Cond.static ({ cls := "java/lang/StringUTF16", name := "compress", desc := "([BI[BII)I" } : Jvm.MethodName)) ∈ lw_all := lw_g (lw_at lw_m2 135 rfl) rfl
theorem q470 : (Jvm.Cond.code ({ cls := "java/lang/StringUTF16", name := "compress", desc := "([BI[BII)I" } : Jvm.MethodName) prog_49_method_22_code (7 : Nat) (Option.some Jvm.ClassFile.FieldType.int)) ∈ lw_all := lw_g (lw_at lw_m2 136 rfl) rfl
theorem q471 : (Jvm.Cond.methodLink "java/lang/StringUTF16" (71 : Nat) ({ cls := "java/lang/StringUTF16", name := "getChar", desc := "([BI)C" } : Jvm.MethodName)) ∈ lw_all := lw_g (lw_at lw_m2 137 rfl) rfl
theorem q472 : (Jvm.Cond.static ({ cls := "java/lang/StringUTF16", name := "getChar", desc := "([BI)C" } : Jvm.MethodName)) ∈ lw_all := lw_g (lw_at lw_m2 138 rfl) rfl
theorem q473 : (Jvm.Cond.code ({ cls := "java/lang/StringUTF16", name := "getChar", desc := "([BI)C" } : Jvm.MethodName) prog_49_method_5_code (2 : Nat) (Option.some Jvm.ClassFile.FieldType.char)) ∈ lw_all := lw_g (lw_at lw_m2 139 rfl) rfl
theorem q474 : (Jvm.Cond.methodLink "java/lang/StringUTF16" (126 : Nat) ({ cls := "java/util/Arrays", name := "copyOfRange", desc := "([BII)[B" } : Jvm.MethodName)) ∈ lw_all := lw_g (lw_at lw_m2 140 rfl) rfl
theorem q476 : (Jvm.Cond.static ({ cls := "java/lang/StringUTF16", name := "coderFromArrayLen", desc := "([BI)B" } : Jvm.MethodName)) ∈ lw_all := lw_g (lw_at lw_m2 142 rfl) rfl
theorem q477 : (Jvm.Cond.code ({ cls := "java/lang/StringUTF16", name := "coderFromArrayLen", desc := "([BI)B" } : Jvm.MethodName) prog_49_method_15_code (2 : Nat) (Option.some Jvm.ClassFile.FieldType.byte)) ∈ lw_all := lw_g (lw_at lw_m2 143 rfl) rfl
theorem q993 : (Jvm.Cond.static ({ cls := "java/lang/StringUTF16", name := "putCharSB", desc := "([BII)V" } : Jvm.MethodName)) ∈ lw_all := lw_g (lw_at lw_m4 179 rfl) rfl
theorem q994 : (Jvm.Cond.code ({ cls := "java/lang/StringUTF16", name := "putCharSB", desc := "([BII)V" } : Jvm.MethodName) prog_49_method_71_code (3 : Nat) (Option.none : Option Jvm.ClassFile.FieldType)) ∈ lw_all := lw_g (lw_at lw_m4 180 rfl) rfl
theorem q995 : (Jvm.Cond.methodLink "java/lang/StringUTF16" (67 : Nat) ({ cls := "java/lang/StringUTF16", name := "checkIndex", desc := "(I[B)V" } : Jvm.MethodName)) ∈ lw_all := lw_g (lw_at lw_m4 181 rfl) rfl
theorem q996 : (Jvm.Cond.static ({ cls := "java/lang/StringUTF16", name := "checkIndex", desc := "(I[B)V" } : Jvm.MethodName)) ∈ lw_all := lw_g (lw_at lw_m4 182 rfl) rfl
theorem q997 : (Jvm.Cond.code ({ cls := "java/lang/StringUTF16", name := "checkIndex", desc := "(I[B)V" } : Jvm.MethodName) prog_49_method_91_code (2 : Nat) (Option.none : Option Jvm.ClassFile.FieldType)) ∈ lw_all := lw_g (lw_at lw_m4 183 rfl) rfl
theorem q998 : (Jvm.Cond.methodLink "java/lang/StringUTF16" (414 : Nat) ({ cls := "java/lang/String", name := "checkIndex", desc := "(II)V" } : Jvm.MethodName)) ∈ lw_all := lw_g (lw_at lw_m4 184 rfl) rfl
theorem q1065 : (Jvm.Cond.static ({ cls := "java/lang/StringUTF16", name := "hashCode", desc := "([B)I" } : Jvm.MethodName)) ∈ lw_all := lw_g (lw_at lw_m5 11 rfl) rfl
theorem q1066 : (Jvm.Cond.code ({ cls := "java/lang/StringUTF16", name := "hashCode", desc := "([B)I" } : Jvm.MethodName) prog_49_method_39_code (1 : Nat) (Option.some Jvm.ClassFile.FieldType.int)) ∈ lw_all := lw_g (lw_at lw_m5 12 rfl) rfl
theorem q1067 : (Jvm.Cond.methodLink "java/lang/StringUTF16" (220 : Nat) ({ cls := "jdk/internal/util/ArraysSupport", name := "vectorizedHashCode", desc := "(Ljava/lang/Object;IIII)I" } : Jvm.MethodName)) ∈ lw_all := lw_g (lw_at lw_m5 13 rfl) rfl

/-! jdk/internal/util/ArraysSupport -/
set_option maxRecDepth 100000
def RJ11 : String := "jdk/internal/util/ArraysSupport"
abbrev cJ11_newLength : ByteArray := prog_66_method_27_code
def yJ11_newLength : MethodName := ⟨RJ11, "newLength", "(III)I"⟩
abbrev cJ11_hugeLength : ByteArray := prog_66_method_28_code
def yJ11_hugeLength : MethodName := ⟨RJ11, "hugeLength", "(II)I"⟩
abbrev cJ11_vectorizedHashCode : ByteArray := prog_66_method_4_code
def yJ11_vectorizedHashCode : MethodName := ⟨RJ11, "vectorizedHashCode", "(Ljava/lang/Object;IIII)I"⟩
abbrev cJ11_signedHashCode : ByteArray := prog_66_method_5_code
def yJ11_signedHashCode : MethodName := ⟨RJ11, "signedHashCode", "(I[BII)I"⟩
abbrev cJ11_utf16hashCode : ByteArray := prog_66_method_10_code
def yJ11_utf16hashCode : MethodName := ⟨RJ11, "utf16hashCode", "(I[BII)I"⟩
abbrev cJ11_hashCode : ByteArray := prog_66_method_7_code
def yJ11_hashCode : MethodName := ⟨RJ11, "hashCode", "(I[CII)I"⟩
abbrev cJ11_hashCode_2 : ByteArray := prog_66_method_6_code
def yJ11_hashCode_2 : MethodName := ⟨RJ11, "hashCode", "(I[BII)I"⟩
abbrev cJ11_hashCode_3 : ByteArray := prog_66_method_8_code
def yJ11_hashCode_3 : MethodName := ⟨RJ11, "hashCode", "(I[SII)I"⟩
abbrev cJ11_hashCode_4 : ByteArray := prog_66_method_9_code
def yJ11_hashCode_4 : MethodName := ⟨RJ11, "hashCode", "(I[III)I"⟩
theorem q108 : (Jvm.Cond.initialized "jdk/internal/util/ArraysSupport") ∈ lw_all := lw_g (lw_at lw_m1 14 rfl) rfl
theorem q272 : (Jvm.Cond.static ({ cls := "jdk/internal/util/ArraysSupport", name := "newLength", desc := "(III)I" } : Jvm.MethodName)) ∈ lw_all := lw_g (lw_at lw_m1 178 rfl) rfl
theorem q273 : (Jvm.Cond.code ({ cls := "jdk/internal/util/ArraysSupport", name := "newLength", desc := "(III)I" } : Jvm.MethodName) prog_66_method_27_code (4 : Nat) (Option.some Jvm.ClassFile.FieldType.int)) ∈ lw_all := lw_g (lw_at lw_m1 179 rfl) rfl
theorem q274 : (Jvm.Cond.methodLink "jdk/internal/util/ArraysSupport" (194 : Nat) ({ cls := "java/lang/Math", name := "max", desc := "(II)I" } : Jvm.MethodName)) ∈ lw_all := lw_g (lw_at lw_m1 180 rfl) rfl
theorem q277 : (Jvm.Cond.constant "jdk/internal/util/ArraysSupport" (200 : Nat) (2147483639 : Int32)) ∈ lw_all := lw_g (lw_at lw_m1 183 rfl) rfl
theorem q278 : (Jvm.Cond.methodLink "jdk/internal/util/ArraysSupport" (201 : Nat) ({ cls := "jdk/internal/util/ArraysSupport", name := "hugeLength", desc := "(II)I" } : Jvm.MethodName)) ∈ lw_all := lw_g (lw_at lw_m1 184 rfl) rfl
theorem q279 : (Jvm.Cond.static ({ cls := "jdk/internal/util/ArraysSupport", name := "hugeLength", desc := "(II)I" } : Jvm.MethodName)) ∈ lw_all := lw_g (lw_at lw_m1 185 rfl) rfl
theorem q280 : (Jvm.Cond.code ({ cls := "jdk/internal/util/ArraysSupport", name := "hugeLength", desc := "(II)I" } : Jvm.MethodName) prog_66_method_28_code (3 : Nat) (Option.some Jvm.ClassFile.FieldType.int)) ∈ lw_all := lw_g (lw_at lw_m1 186 rfl) rfl
theorem q1019 : (Jvm.Cond.static ({ cls := "jdk/internal/util/ArraysSupport", name := "vectorizedHashCode", desc := "(Ljava/lang/Object;IIII)I" } : Jvm.MethodName)) ∈ lw_all := lw_g (lw_at lw_m4 205 rfl) rfl
theorem q1020 : (Jvm.Cond.code ({ cls := "jdk/internal/util/ArraysSupport", name := "vectorizedHashCode", desc := "(Ljava/lang/Object;IIII)I" } : Jvm.MethodName) prog_66_method_4_code (5 : Nat) (Option.some Jvm.ClassFile.FieldType.int)) ∈ lw_all := lw_g (lw_at lw_m4 206 rfl) rfl
theorem q1021 : (Jvm.Cond.classLink "jdk/internal/util/ArraysSupport" (60 : Nat) "[B") ∈ lw_all := lw_g (lw_at lw_m4 207 rfl) rfl
theorem q1022 : (Jvm.Cond.methodLink "jdk/internal/util/ArraysSupport" (62 : Nat) ({ cls := "jdk/internal/util/ArraysSupport", name := "signedHashCode", desc := "(I[BII)I" } : Jvm.MethodName)) ∈ lw_all := lw_g (lw_at lw_m4 208 rfl) rfl
theorem q1023 : (Jvm.Cond.static ({ cls := "jdk/internal/util/ArraysSupport", name := "signedHashCode", desc := "(I[BII)I" } : Jvm.MethodName)) ∈ lw_all := lw_g (lw_at lw_m4 209 rfl) rfl
theorem q1024 : (Jvm.Cond.code ({ cls := "jdk/internal/util/ArraysSupport", name := "signedHashCode", desc := "(I[BII)I" } : Jvm.MethodName) prog_66_method_5_code (6 : Nat) (Option.some Jvm.ClassFile.FieldType.int)) ∈ lw_all := lw_g (lw_at lw_m4 210 rfl) rfl
theorem q1025 : (Jvm.Cond.methodLink "jdk/internal/util/ArraysSupport" (66 : Nat) ({ cls := "jdk/internal/util/ArraysSupport", name := "utf16hashCode", desc := "(I[BII)I" } : Jvm.MethodName)) ∈ lw_all := lw_g (lw_at lw_m4 211 rfl) rfl
theorem q1026 : (Jvm.Cond.static ({ cls := "jdk/internal/util/ArraysSupport", name := "utf16hashCode", desc := "(I[BII)I" } : Jvm.MethodName)) ∈ lw_all := lw_g (lw_at lw_m4 212 rfl) rfl
theorem q1027 : (Jvm.Cond.code ({ cls := "jdk/internal/util/ArraysSupport", name := "utf16hashCode", desc := "(I[BII)I" } : Jvm.MethodName) prog_66_method_10_code (6 : Nat) (Option.some Jvm.ClassFile.FieldType.int)) ∈ lw_all := lw_g (lw_at lw_m4 213 rfl) rfl
theorem q1028 : (Jvm.Cond.fieldLink "jdk/internal/util/ArraysSupport" (106 : Nat) "jdk/internal/util/ArraysSupport" "JLA" "Ljdk/internal/access/JavaLangAccess;") ∈ lw_all := lw_g (lw_at lw_m4 214 rfl) rfl
theorem q1029 : (Jvm.Cond.laysStatic "jdk/internal/util/ArraysSupport" "JLA" "Ljdk/internal/access/JavaLangAccess;") ∈ lw_tbl := lw_at lw_m4 215 rfl
theorem q1030 : (Jvm.Cond.interfaceEntry "jdk/internal/util/ArraysSupport" (110 : Nat)) ∈ lw_tbl := lw_at lw_m4 216 rfl
theorem q1031 : (Jvm.Cond.methodLink "jdk/internal/util/ArraysSupport" (110 : Nat) ({ cls := "jdk/internal/access/JavaLangAccess", name := "getUTF16Char", desc := "([BI)C" } : Jvm.MethodName)) ∈ lw_all := lw_g (lw_at lw_m4 217 rfl) rfl
theorem q1041 : (Jvm.Cond.classLink "jdk/internal/util/ArraysSupport" (69 : Nat) "[C") ∈ lw_all := lw_g (lw_at lw_m4 227 rfl) rfl
theorem q1042 : (Jvm.Cond.methodLink "jdk/internal/util/ArraysSupport" (71 : Nat) ({ cls := "jdk/internal/util/ArraysSupport", name := "hashCode", desc := "(I[CII)I" } : Jvm.MethodName)) ∈ lw_all := lw_g (lw_at lw_m4 228 rfl) rfl
theorem q1043 : (Jvm.Cond.static ({ cls := "jdk/internal/util/ArraysSupport", name := "hashCode", desc := "(I[CII)I" } : Jvm.MethodName)) ∈ lw_all := lw_g (lw_at lw_m4 229 rfl) rfl
theorem q1044 : (Jvm.Cond.code ({ cls := "jdk/internal/util/ArraysSupport", name := "hashCode", desc := "(I[CII)I" } : Jvm.MethodName) prog_66_method_7_code (6 : Nat) (Option.some Jvm.ClassFile.FieldType.int)) ∈ lw_all := lw_g (lw_at lw_m4 230 rfl) rfl
theorem q1045 : (Jvm.Cond.methodLink "jdk/internal/util/ArraysSupport" (75 : Nat) ({ cls := "jdk/internal/util/ArraysSupport", name := "hashCode", desc := "(I[BII)I" } : Jvm.MethodName)) ∈ lw_all := lw_g (lw_at lw_m4 231 rfl) rfl
theorem q1046 : (Jvm.Cond.static ({ cls := "jdk/internal/util/ArraysSupport", name := "hashCode", desc := "(I[BII)I" } : Jvm.MethodName)) ∈ lw_all := lw_g (lw_at lw_m4 232 rfl) rfl
theorem q1047 : (Jvm.Cond.code ({ cls := "jdk/internal/util/ArraysSupport", name := "hashCode", desc := "(I[BII)I" } : Jvm.MethodName) prog_66_method_6_code (6 : Nat) (Option.some Jvm.ClassFile.FieldType.int)) ∈ lw_all := lw_g (lw_at lw_m4 233 rfl) rfl
theorem q1048 : (Jvm.Cond.classLink "jdk/internal/util/ArraysSupport" (77 : Nat) "[S") ∈ lw_all := lw_g (lw_at lw_m4 234 rfl) rfl
theorem q1049 : (Jvm.Cond.methodLink "jdk/internal/util/ArraysSupport" (79 : Nat) ({ cls := "jdk/internal/util/ArraysSupport", name := "hashCode", desc := "(I[SII)I" } : Jvm.MethodName)) ∈ lw_all := lw_g (lw_at lw_m4 235 rfl) rfl
theorem q1050 : (Jvm.Cond.static ({ cls := "jdk/internal/util/ArraysSupport", name := "hashCode", desc := "(I[SII)I" } : Jvm.MethodName)) ∈ lw_all := lw_g (lw_at lw_m4 236 rfl) rfl
theorem q1051 : (Jvm.Cond.code ({ cls := "jdk/internal/util/ArraysSupport", name := "hashCode", desc := "(I[SII)I" } : Jvm.MethodName) prog_66_method_8_code (6 : Nat) (Option.some Jvm.ClassFile.FieldType.int)) ∈ lw_all := lw_g (lw_at lw_m4 237 rfl) rfl
theorem q1052 : (Jvm.Cond.classLink "jdk/internal/util/ArraysSupport" (82 : Nat) "[I") ∈ lw_all := lw_g (lw_at lw_m4 238 rfl) rfl
theorem q1053 : (Jvm.Cond.methodLink "jdk/internal/util/ArraysSupport" (84 : Nat) ({ cls := "jdk/internal/util/ArraysSupport", name := "hashCode", desc := "(I[III)I" } : Jvm.MethodName)) ∈ lw_all := lw_g (lw_at lw_m4 239 rfl) rfl
theorem q1054 : (Jvm.Cond.static ({ cls := "jdk/internal/util/ArraysSupport", name := "hashCode", desc := "(I[III)I" } : Jvm.MethodName)) ∈ lw_all := lw_g (lw_at lw_m5 0 rfl) rfl
theorem q1055 : (Jvm.Cond.code ({ cls := "jdk/internal/util/ArraysSupport", name := "hashCode", desc := "(I[III)I" } : Jvm.MethodName) prog_66_method_9_code (6 : Nat) (Option.some Jvm.ClassFile.FieldType.int)) ∈ lw_all := lw_g (lw_at lw_m5 1 rfl) rfl
theorem q1056 : (Jvm.Cond.classLink "jdk/internal/util/ArraysSupport" (87 : Nat) "java/lang/IllegalArgumentException") ∈ lw_all := lw_g (lw_at lw_m5 2 rfl) rfl
theorem q1057 : (Jvm.Cond.classLink "jdk/internal/util/ArraysSupport" (89 : Nat) "java/lang/StringBuilder") ∈ lw_all := lw_g (lw_at lw_m5 3 rfl) rfl
theorem q1058 : (Jvm.Cond.methodLink "jdk/internal/util/ArraysSupport" (91 : Nat) ({ cls := "java/lang/StringBuilder", name := "<init>", desc := "()V" } : Jvm.MethodName)) ∈ lw_all := lw_g (lw_at lw_m5 4 rfl) rfl
theorem q1059 : (Jvm.Cond.stringRef "jdk/internal/util/ArraysSupport" (92 : Nat) "unrecognized basic type: ") ∈ lw_tbl := lw_at lw_m5 5 rfl
theorem q1060 : (Jvm.Cond.methodLink "jdk/internal/util/ArraysSupport" (94 : Nat) ({ cls := "java/lang/StringBuilder", name := "append", desc := "(Ljava/lang/String;)Ljava/lang/StringBuilder;" } : Jvm.MethodName)) ∈ lw_all := lw_g (lw_at lw_m5 6 rfl) rfl
theorem q1061 : (Jvm.Cond.methodLink "jdk/internal/util/ArraysSupport" (98 : Nat) ({ cls := "java/lang/StringBuilder", name := "append", desc := "(I)Ljava/lang/StringBuilder;" } : Jvm.MethodName)) ∈ lw_all := lw_g (lw_at lw_m5 7 rfl) rfl
theorem q1062 : (Jvm.Cond.methodLink "jdk/internal/util/ArraysSupport" (101 : Nat) ({ cls := "java/lang/StringBuilder", name := "toString", desc := "()Ljava/lang/String;" } : Jvm.MethodName)) ∈ lw_all := lw_g (lw_at lw_m5 8 rfl) rfl
theorem q1063 : (Jvm.Cond.methodLink "jdk/internal/util/ArraysSupport" (105 : Nat) ({ cls := "java/lang/IllegalArgumentException", name := "<init>", desc := "(Ljava/lang/String;)V" } : Jvm.MethodName)) ∈ lw_all := lw_g (lw_at lw_m5 9 rfl) rfl

/-! java/lang/Math -/
set_option maxRecDepth 100000
def RJ12 : String := "java/lang/Math"
abbrev cJ12_max : ByteArray := prog_43_method_65_code
def yJ12_max : MethodName := ⟨RJ12, "max", "(II)I"⟩
abbrev cJ12_min : ByteArray := prog_43_method_69_code
def yJ12_min : MethodName := ⟨RJ12, "min", "(II)I"⟩
abbrev cJ12_abs : ByteArray := prog_43_method_59_code
def yJ12_abs : MethodName := ⟨RJ12, "abs", "(I)I"⟩
theorem q109 : (Jvm.Cond.initialized "java/lang/Math") ∈ lw_all := lw_g (lw_at lw_m1 15 rfl) rfl
theorem q275 : (Jvm.Cond.static ({ cls := "java/lang/Math", name := "max", desc := "(II)I" } : Jvm.MethodName)) ∈ lw_all := lw_g (lw_at lw_m1 181 rfl) rfl
theorem q276 : (Jvm.Cond.code ({ cls := "java/lang/Math", name := "max", desc := "(II)I" } : Jvm.MethodName) prog_43_method_65_code (2 : Nat) (Option.some Jvm.ClassFile.FieldType.int)) ∈ lw_all := lw_g (lw_at lw_m1 182 rfl) rfl
theorem q293 : (Jvm.Cond.static ({ cls := "java/lang/Math", name := "min", desc := "(II)I" } : Jvm.MethodName)) ∈ lw_all := lw_g (lw_at lw_m1 199 rfl) rfl
theorem q294 : (Jvm.Cond.code ({ cls := "java/lang/Math", name := "min", desc := "(II)I" } : Jvm.MethodName) prog_43_method_69_code (2 : Nat) (Option.some Jvm.ClassFile.FieldType.int)) ∈ lw_all := lw_g (lw_at lw_m1 200 rfl) rfl
theorem q1827 : (Jvm.Cond.static ({ cls := "java/lang/Math", name := "abs", desc := "(I)I" } : Jvm.MethodName)) ∈ lw_all := lw_g (lw_at lw_m8 53 rfl) rfl
theorem q1828 : (Jvm.Cond.code ({ cls := "java/lang/Math", name := "abs", desc := "(I)I" } : Jvm.MethodName) prog_43_method_59_code (1 : Nat) (Option.some Jvm.ClassFile.FieldType.int)) ∈ lw_all := lw_g (lw_at lw_m8 54 rfl) rfl

/-! java/util/Arrays -/
set_option maxRecDepth 100000
def RJ13 : String := "java/util/Arrays"
abbrev cJ13_copyOf : ByteArray := prog_58_method_121_code
def yJ13_copyOf : MethodName := ⟨RJ13, "copyOf", "([BI)[B"⟩
abbrev cJ13_copyOfRange : ByteArray := prog_58_method_132_code
def yJ13_copyOfRange : MethodName := ⟨RJ13, "copyOfRange", "([BII)[B"⟩
abbrev cJ13_copyOfRangeByte : ByteArray := prog_58_method_133_code
def yJ13_copyOfRangeByte : MethodName := ⟨RJ13, "copyOfRangeByte", "([BII)[B"⟩
abbrev cJ13_checkLength : ByteArray := prog_58_method_131_code
def yJ13_checkLength : MethodName := ⟨RJ13, "checkLength", "(II)V"⟩
abbrev cJ13_copyOf_2 : ByteArray := prog_58_method_119_code
def yJ13_copyOf_2 : MethodName := ⟨RJ13, "copyOf", "([Ljava/lang/Object;I)[Ljava/lang/Object;"⟩
abbrev cJ13_copyOf_3 : ByteArray := prog_58_method_120_code
def yJ13_copyOf_3 : MethodName := ⟨RJ13, "copyOf", "([Ljava/lang/Object;ILjava/lang/Class;)[Ljava/lang/Object;"⟩
theorem q110 : (Jvm.Cond.initialized "java/util/Arrays") ∈ lw_all := lw_g (lw_at lw_m1 16 rfl) rfl
theorem q283 : (Jvm.Cond.static ({ cls := "java/util/Arrays", name := "copyOf", desc := "([BI)[B" } : Jvm.MethodName)) ∈ lw_all := lw_g (lw_at lw_m1 189 rfl) rfl
theorem q284 : (Jvm.Cond.code ({ cls := "java/util/Arrays", name := "copyOf", desc := "([BI)[B" } : Jvm.MethodName) prog_58_method_121_code (3 : Nat) (Option.some (Jvm.ClassFile.FieldType.array Jvm.ClassFile.FieldType.byte))) ∈ lw_all := lw_g (lw_at lw_m1 190 rfl) rfl
theorem q285 : (Jvm.Cond.methodLink "java/util/Arrays" (310 : Nat) ({ cls := "[B", name := "clone", desc := "()Ljava/lang/Object;" } : Jvm.MethodName)) ∈ lw_all := lw_g (lw_at lw_m1 191 rfl) rfl
theorem q291 : (Jvm.Cond.classLink "java/util/Arrays" (311 : Nat) "[B") ∈ lw_all := lw_g (lw_at lw_m1 197 rfl) rfl
theorem q292 : (Jvm.Cond.methodLink "java/util/Arrays" (304 : Nat) ({ cls := "java/lang/Math", name := "min", desc := "(II)I" } : Jvm.MethodName)) ∈ lw_all := lw_g (lw_at lw_m1 198 rfl) rfl
theorem q295 : (Jvm.Cond.methodLink "java/util/Arrays" (150 : Nat) ({ cls := "java/lang/System", name := "arraycopy", desc := "(Ljava/lang/Object;ILjava/lang/Object;II)V" } : Jvm.MethodName)) ∈ lw_all := lw_g (lw_at lw_m1 201 rfl) rfl
theorem q425 : (Jvm.Cond.static ({ cls := "java/util/Arrays", name := "copyOfRange", desc := "([BII)[B" } : Jvm.MethodName)) ∈ lw_all := lw_g (lw_at lw_m2 91 rfl) rfl
theorem q426 : (Jvm.Cond.code ({ cls := "java/util/Arrays", name := "copyOfRange", desc := "([BII)[B" } : Jvm.MethodName) prog_58_method_132_code (3 : Nat) (Option.some (Jvm.ClassFile.FieldType.array Jvm.ClassFile.FieldType.byte))) ∈ lw_all := lw_g (lw_at lw_m2 92 rfl) rfl
theorem q427 : (Jvm.Cond.methodLink "java/util/Arrays" (339 : Nat) ({ cls := "java/util/Arrays", name := "copyOfRangeByte", desc := "([BII)[B" } : Jvm.MethodName)) ∈ lw_all := lw_g (lw_at lw_m2 93 rfl) rfl
theorem q428 : (Jvm.Cond.static ({ cls := "java/util/Arrays", name := "copyOfRangeByte", desc := "([BII)[B" } : Jvm.MethodName)) ∈ lw_all := lw_g (lw_at lw_m2 94 rfl) rfl
theorem q429 : (Jvm.Cond.code ({ cls := "java/util/Arrays", name := "copyOfRangeByte", desc := "([BII)[B" } : Jvm.MethodName) prog_58_method_133_code (5 : Nat) (Option.some (Jvm.ClassFile.FieldType.array Jvm.ClassFile.FieldType.byte))) ∈ lw_all := lw_g (lw_at lw_m2 95 rfl) rfl
theorem q430 : (Jvm.Cond.methodLink "java/util/Arrays" (343 : Nat) ({ cls := "java/util/Arrays", name := "checkLength", desc := "(II)V" } : Jvm.MethodName)) ∈ lw_all := lw_g (lw_at lw_m2 96 rfl) rfl
theorem q431 : (Jvm.Cond.static ({ cls := "java/util/Arrays", name := "checkLength", desc := "(II)V" } : Jvm.MethodName)) ∈ lw_all := lw_g (lw_at lw_m2 97 rfl) rfl
theorem q432 : (Jvm.Cond.code ({ cls := "java/util/Arrays", name := "checkLength", desc := "(II)V" } : Jvm.MethodName) prog_58_method_131_code (2 : Nat) (Option.none : Option Jvm.ClassFile.FieldType)) ∈ lw_all := lw_g (lw_at lw_m2 98 rfl) rfl
theorem q433 : (Jvm.Cond.classLink "java/util/Arrays" (43 : Nat) "java/lang/IllegalArgumentException") ∈ lw_all := lw_g (lw_at lw_m2 99 rfl) rfl
theorem q434 : (Jvm.Cond.classLink "java/util/Arrays" (45 : Nat) "java/lang/StringBuilder") ∈ lw_all := lw_g (lw_at lw_m2 100 rfl) rfl
theorem q435 : (Jvm.Cond.methodLink "java/util/Arrays" (47 : Nat) ({ cls := "java/lang/StringBuilder", name := "<init>", desc := "()V" } : Jvm.MethodName)) ∈ lw_all := lw_g (lw_at lw_m2 101 rfl) rfl
theorem q436 : (Jvm.Cond.methodLink "java/util/Arrays" (54 : Nat) ({ cls := "java/lang/StringBuilder", name := "append", desc := "(I)Ljava/lang/StringBuilder;" } : Jvm.MethodName)) ∈ lw_all := lw_g (lw_at lw_m2 102 rfl) rfl
theorem q437 : (Jvm.Cond.stringRef "java/util/Arrays" (337 : Nat) " > ") ∈ lw_tbl := lw_at lw_m2 103 rfl
theorem q438 : (Jvm.Cond.methodLink "java/util/Arrays" (50 : Nat) ({ cls := "java/lang/StringBuilder", name := "append", desc := "(Ljava/lang/String;)Ljava/lang/StringBuilder;" } : Jvm.MethodName)) ∈ lw_all := lw_g (lw_at lw_m2 104 rfl) rfl
theorem q439 : (Jvm.Cond.methodLink "java/util/Arrays" (61 : Nat) ({ cls := "java/lang/StringBuilder", name := "toString", desc := "()Ljava/lang/String;" } : Jvm.MethodName)) ∈ lw_all := lw_g (lw_at lw_m2 105 rfl) rfl
theorem q440 : (Jvm.Cond.methodLink "java/util/Arrays" (65 : Nat) ({ cls := "java/lang/IllegalArgumentException", name := "<init>", desc := "(Ljava/lang/String;)V" } : Jvm.MethodName)) ∈ lw_all := lw_g (lw_at lw_m2 106 rfl) rfl
theorem q685 : (Jvm.Cond.static ({ cls := "java/util/Arrays", name := "copyOf", desc := "([Ljava/lang/Object;I)[Ljava/lang/Object;" } : Jvm.MethodName)) ∈ lw_all := lw_g (lw_at lw_m3 111 rfl) rfl
theorem q686 : (Jvm.Cond.code ({ cls := "java/util/Arrays", name := "copyOf", desc := "([Ljava/lang/Object;I)[Ljava/lang/Object;" } : Jvm.MethodName) prog_58_method_119_code (2 : Nat) (Option.some (Jvm.ClassFile.FieldType.array (Jvm.ClassFile.FieldType.object "java/lang/Object")))) ∈ lw_all := lw_g (lw_at lw_m3 112 rfl) rfl
theorem q687 : (Jvm.Cond.methodLink "java/util/Arrays" (86 : Nat) ({ cls := "java/lang/Object", name := "getClass", desc := "()Ljava/lang/Class;" } : Jvm.MethodName)) ∈ lw_all := lw_g (lw_at lw_m3 113 rfl) rfl
theorem q722 : (Jvm.Cond.methodLink "java/util/Arrays" (300 : Nat) ({ cls := "java/util/Arrays", name := "copyOf", desc := "([Ljava/lang/Object;ILjava/lang/Class;)[Ljava/lang/Object;" } : Jvm.MethodName)) ∈ lw_all := lw_g (lw_at lw_m3 148 rfl) rfl
theorem q723 : (Jvm.Cond.static ({ cls := "java/util/Arrays", name := "copyOf", desc := "([Ljava/lang/Object;ILjava/lang/Class;)[Ljava/lang/Object;" } : Jvm.MethodName)) ∈ lw_all := lw_g (lw_at lw_m3 149 rfl) rfl
theorem q724 : (Jvm.Cond.code ({ cls := "java/util/Arrays", name := "copyOf", desc := "([Ljava/lang/Object;ILjava/lang/Class;)[Ljava/lang/Object;" } : Jvm.MethodName) prog_58_method_120_code (4 : Nat) (Option.some (Jvm.ClassFile.FieldType.array (Jvm.ClassFile.FieldType.object "java/lang/Object")))) ∈ lw_all := lw_g (lw_at lw_m3 150 rfl) rfl
theorem q725 : (Jvm.Cond.classLink "java/util/Arrays" (110 : Nat) "[Ljava/lang/Object;") ∈ lw_all := lw_g (lw_at lw_m3 151 rfl) rfl
theorem q726 : (Jvm.Cond.classLink "java/util/Arrays" (2 : Nat) "java/lang/Object") ∈ lw_all := lw_g (lw_at lw_m3 152 rfl) rfl

/-! jdk/internal/util/Preconditions -/
set_option maxRecDepth 100000
def RJ14 : String := "jdk/internal/util/Preconditions"
abbrev cJ14_checkFromToIndex : ByteArray := prog_67_method_12_code
def yJ14_checkFromToIndex : MethodName := ⟨RJ14, "checkFromToIndex", "(IIILjava/util/function/BiFunction;)I"⟩
abbrev cJ14_checkFromIndexSize : ByteArray := prog_67_method_13_code
def yJ14_checkFromIndexSize : MethodName := ⟨RJ14, "checkFromIndexSize", "(IIILjava/util/function/BiFunction;)I"⟩
abbrev cJ14_checkIndex : ByteArray := prog_67_method_11_code
def yJ14_checkIndex : MethodName := ⟨RJ14, "checkIndex", "(IILjava/util/function/BiFunction;)I"⟩
theorem q112 : (Jvm.Cond.initialized "jdk/internal/util/Preconditions") ∈ lw_all := lw_g (lw_at lw_m1 18 rfl) rfl
theorem q316 : (Jvm.Cond.laysStatic "jdk/internal/util/Preconditions" "SIOOBE_FORMATTER" "Ljava/util/function/BiFunction;") ∈ lw_tbl := lw_at lw_m1 222 rfl
theorem q318 : (Jvm.Cond.static ({ cls := "jdk/internal/util/Preconditions", name := "checkFromToIndex", desc := "(IIILjava/util/function/BiFunction;)I" } : Jvm.MethodName)) ∈ lw_all := lw_g (lw_at lw_m1 224 rfl) rfl
theorem q319 : (Jvm.Cond.code ({ cls := "jdk/internal/util/Preconditions", name := "checkFromToIndex", desc := "(IIILjava/util/function/BiFunction;)I" } : Jvm.MethodName) prog_67_method_12_code (4 : Nat) (Option.some Jvm.ClassFile.FieldType.int)) ∈ lw_all := lw_g (lw_at lw_m1 225 rfl) rfl
theorem q364 : (Jvm.Cond.static ({ cls := "jdk/internal/util/Preconditions", name := "checkFromIndexSize", desc := "(IIILjava/util/function/BiFunction;)I" } : Jvm.MethodName)) ∈ lw_all := lw_g (lw_at lw_m2 30 rfl) rfl
theorem q365 : (Jvm.Cond.code ({ cls := "jdk/internal/util/Preconditions", name := "checkFromIndexSize", desc := "(IIILjava/util/function/BiFunction;)I" } : Jvm.MethodName) prog_67_method_13_code (4 : Nat) (Option.some Jvm.ClassFile.FieldType.int)) ∈ lw_all := lw_g (lw_at lw_m2 31 rfl) rfl
theorem q658 : (Jvm.Cond.static ({ cls := "jdk/internal/util/Preconditions", name := "checkIndex", desc := "(IILjava/util/function/BiFunction;)I" } : Jvm.MethodName)) ∈ lw_all := lw_g (lw_at lw_m3 84 rfl) rfl
theorem q659 : (Jvm.Cond.code ({ cls := "jdk/internal/util/Preconditions", name := "checkIndex", desc := "(IILjava/util/function/BiFunction;)I" } : Jvm.MethodName) prog_67_method_11_code (3 : Nat) (Option.some Jvm.ClassFile.FieldType.int)) ∈ lw_all := lw_g (lw_at lw_m3 85 rfl) rfl

/-! java/lang/StringLatin1 -/
set_option maxRecDepth 100000
def RJ15 : String := "java/lang/StringLatin1"
abbrev cJ15_inflate : ByteArray := prog_48_method_50_code
def yJ15_inflate : MethodName := ⟨RJ15, "inflate", "([BI[BII)V"⟩
abbrev cJ15_canEncode : ByteArray := prog_48_method_3_code
def yJ15_canEncode : MethodName := ⟨RJ15, "canEncode", "(C)Z"⟩
abbrev cJ15_hashCode : ByteArray := prog_48_method_21_code
def yJ15_hashCode : MethodName := ⟨RJ15, "hashCode", "([B)I"⟩
abbrev cJ15_equals : ByteArray := prog_48_method_13_code
def yJ15_equals : MethodName := ⟨RJ15, "equals", "([B[B)Z"⟩
theorem q113 : (Jvm.Cond.initialized "java/lang/StringLatin1") ∈ lw_all := lw_g (lw_at lw_m1 19 rfl) rfl
theorem q352 : (Jvm.Cond.static ({ cls := "java/lang/StringLatin1", name := "inflate", desc := "([BI[BII)V" } : Jvm.MethodName)) ∈ lw_all := lw_g (lw_at lw_m2 18 rfl) rfl
theorem q353 : (Jvm.Cond.code ({ cls := "java/lang/StringLatin1", name := "inflate", desc := "([BI[BII)V" } : Jvm.MethodName) prog_48_method_50_code (5 : Nat) (Option.none : Option Jvm.ClassFile.FieldType)) ∈ lw_all := lw_g (lw_at lw_m2 19 rfl) rfl
theorem q354 : (Jvm.Cond.methodLink "java/lang/StringLatin1" (240 : Nat) ({ cls := "java/lang/StringUTF16", name := "inflate", desc := "([BI[BII)V" } : Jvm.MethodName)) ∈ lw_all := lw_g (lw_at lw_m2 20 rfl) rfl
theorem q990 : (Jvm.Cond.static ({ cls := "java/lang/StringLatin1", name := "canEncode", desc := "(C)Z" } : Jvm.MethodName)) ∈ lw_all := lw_g (lw_at lw_m4 176 rfl) rfl
theorem q991 : (Jvm.Cond.code ({ cls := "java/lang/StringLatin1", name := "canEncode", desc := "(C)Z" } : Jvm.MethodName) prog_48_method_3_code (1 : Nat) (Option.some Jvm.ClassFile.FieldType.boolean)) ∈ lw_all := lw_g (lw_at lw_m4 177 rfl) rfl
theorem q1016 : (Jvm.Cond.static ({ cls := "java/lang/StringLatin1", name := "hashCode", desc := "([B)I" } : Jvm.MethodName)) ∈ lw_all := lw_g (lw_at lw_m4 202 rfl) rfl
theorem q1017 : (Jvm.Cond.code ({ cls := "java/lang/StringLatin1", name := "hashCode", desc := "([B)I" } : Jvm.MethodName) prog_48_method_21_code (1 : Nat) (Option.some Jvm.ClassFile.FieldType.int)) ∈ lw_all := lw_g (lw_at lw_m4 203 rfl) rfl
theorem q1018 : (Jvm.Cond.methodLink "java/lang/StringLatin1" (84 : Nat) ({ cls := "jdk/internal/util/ArraysSupport", name := "vectorizedHashCode", desc := "(Ljava/lang/Object;IIII)I" } : Jvm.MethodName)) ∈ lw_all := lw_g (lw_at lw_m4 204 rfl) rfl
theorem q1075 : (Jvm.Cond.static ({ cls := "java/lang/StringLatin1", name := "equals", desc := "([B[B)Z" } : Jvm.MethodName)) ∈ lw_all := lw_g (lw_at lw_m5 21 rfl) rfl
theorem q1076 : (Jvm.Cond.code ({ cls := "java/lang/StringLatin1", name := "equals", desc := "([B[B)Z" } : Jvm.MethodName) prog_48_method_13_code (3 : Nat) (Option.some Jvm.ClassFile.FieldType.boolean)) ∈ lw_all := lw_g (lw_at lw_m5 22 rfl) rfl

/-! java/lang/Integer -/
set_option maxRecDepth 100000
def RJ16 : String := "java/lang/Integer"
abbrev cJ16_stringSize : ByteArray := prog_41_method_13_code
def yJ16_stringSize : MethodName := ⟨RJ16, "stringSize", "(I)I"⟩
abbrev cJ16_getChars : ByteArray := prog_41_method_12_code
def yJ16_getChars : MethodName := ⟨RJ16, "getChars", "(II[B)I"⟩
abbrev cJ16_bitCount : ByteArray := prog_41_method_49_code
def yJ16_bitCount : MethodName := ⟨RJ16, "bitCount", "(I)I"⟩
abbrev cJ16_numberOfTrailingZeros : ByteArray := prog_41_method_48_code
def yJ16_numberOfTrailingZeros : MethodName := ⟨RJ16, "numberOfTrailingZeros", "(I)I"⟩
theorem q115 : (Jvm.Cond.initialized "java/lang/Integer") ∈ lw_all := lw_g (lw_at lw_m1 21 rfl) rfl
theorem q380 : (Jvm.Cond.static ({ cls := "java/lang/Integer", name := "stringSize", desc := "(I)I" } : Jvm.MethodName)) ∈ lw_all := lw_g (lw_at lw_m2 46 rfl) rfl
theorem q381 : (Jvm.Cond.code ({ cls := "java/lang/Integer", name := "stringSize", desc := "(I)I" } : Jvm.MethodName) prog_41_method_13_code (4 : Nat) (Option.some Jvm.ClassFile.FieldType.int)) ∈ lw_all := lw_g (lw_at lw_m2 47 rfl) rfl
theorem q383 : (Jvm.Cond.static ({ cls := "java/lang/Integer", name := "getChars", desc := "(II[B)I" } : Jvm.MethodName)) ∈ lw_all := lw_g (lw_at lw_m2 49 rfl) rfl
theorem q384 : (Jvm.Cond.code ({ cls := "java/lang/Integer", name := "getChars", desc := "(II[B)I" } : Jvm.MethodName) prog_41_method_12_code (7 : Nat) (Option.some Jvm.ClassFile.FieldType.int)) ∈ lw_all := lw_g (lw_at lw_m2 50 rfl) rfl
theorem q385 : (Jvm.Cond.fieldLink "java/lang/Integer" (83 : Nat) "java/lang/Integer" "DigitOnes" "[B") ∈ lw_all := lw_g (lw_at lw_m2 51 rfl) rfl
theorem q386 : (Jvm.Cond.laysStatic "java/lang/Integer" "DigitOnes" "[B") ∈ lw_tbl := lw_at lw_m2 52 rfl
theorem q387 : (Jvm.Cond.fieldLink "java/lang/Integer" (87 : Nat) "java/lang/Integer" "DigitTens" "[B") ∈ lw_all := lw_g (lw_at lw_m2 53 rfl) rfl
theorem q388 : (Jvm.Cond.laysStatic "java/lang/Integer" "DigitTens" "[B") ∈ lw_tbl := lw_at lw_m2 54 rfl
theorem q853 : (Jvm.Cond.static ({ cls := "java/lang/Integer", name := "bitCount", desc := "(I)I" } : Jvm.MethodName)) ∈ lw_all := lw_g (lw_at lw_m4 39 rfl) rfl
theorem q854 : (Jvm.Cond.code ({ cls := "java/lang/Integer", name := "bitCount", desc := "(I)I" } : Jvm.MethodName) prog_41_method_49_code (1 : Nat) (Option.some Jvm.ClassFile.FieldType.int)) ∈ lw_all := lw_g (lw_at lw_m4 40 rfl) rfl
theorem q855 : (Jvm.Cond.constant "java/lang/Integer" (265 : Nat) (1431655765 : Int32)) ∈ lw_all := lw_g (lw_at lw_m4 41 rfl) rfl
theorem q856 : (Jvm.Cond.constant "java/lang/Integer" (266 : Nat) (858993459 : Int32)) ∈ lw_all := lw_g (lw_at lw_m4 42 rfl) rfl
theorem q857 : (Jvm.Cond.constant "java/lang/Integer" (267 : Nat) (252645135 : Int32)) ∈ lw_all := lw_g (lw_at lw_m4 43 rfl) rfl
theorem q1823 : (Jvm.Cond.static ({ cls := "java/lang/Integer", name := "numberOfTrailingZeros", desc := "(I)I" } : Jvm.MethodName)) ∈ lw_all := lw_g (lw_at lw_m8 49 rfl) rfl
theorem q1824 : (Jvm.Cond.code ({ cls := "java/lang/Integer", name := "numberOfTrailingZeros", desc := "(I)I" } : Jvm.MethodName) prog_41_method_48_code (2 : Nat) (Option.some Jvm.ClassFile.FieldType.int)) ∈ lw_all := lw_g (lw_at lw_m8 50 rfl) rfl
theorem q1825 : (Jvm.Cond.constant "java/lang/Integer" (264 : Nat) (65536 : Int32)) ∈ lw_all := lw_g (lw_at lw_m8 51 rfl) rfl

/-! java/util/Objects -/
set_option maxRecDepth 100000
def RJ17 : String := "java/util/Objects"
abbrev cJ17_checkIndex : ByteArray := prog_62_method_17_code
def yJ17_checkIndex : MethodName := ⟨RJ17, "checkIndex", "(II)I"⟩
theorem q122 : (Jvm.Cond.initialized "java/util/Objects") ∈ lw_all := lw_g (lw_at lw_m1 28 rfl) rfl
theorem q655 : (Jvm.Cond.static ({ cls := "java/util/Objects", name := "checkIndex", desc := "(II)I" } : Jvm.MethodName)) ∈ lw_all := lw_g (lw_at lw_m3 81 rfl) rfl
theorem q656 : (Jvm.Cond.code ({ cls := "java/util/Objects", name := "checkIndex", desc := "(II)I" } : Jvm.MethodName) prog_62_method_17_code (2 : Nat) (Option.some Jvm.ClassFile.FieldType.int)) ∈ lw_all := lw_g (lw_at lw_m3 82 rfl) rfl
theorem q657 : (Jvm.Cond.methodLink "java/util/Objects" (105 : Nat) ({ cls := "jdk/internal/util/Preconditions", name := "checkIndex", desc := "(IILjava/util/function/BiFunction;)I" } : Jvm.MethodName)) ∈ lw_all := lw_g (lw_at lw_m3 83 rfl) rfl

/-! java/util/NoSuchElementException -/
set_option maxRecDepth 100000
def RJ18 : String := "java/util/NoSuchElementException"
def TJ18 : u_T := fun k => match k with
  | 0 => ("java/lang/Throwable", "cause", "Ljava/lang/Throwable;", false)
  | 1 => ("java/lang/Throwable", "stackTrace", "[Ljava/lang/StackTraceElement;", false)
  | 2 => ("java/lang/Throwable", "suppressedExceptions", "Ljava/util/List;", false)
  | 3 => ("java/lang/Throwable", "detailMessage", "Ljava/lang/String;", false)
  | 4 => ("java/lang/Throwable", "backtrace", "Ljava/lang/Object;", false)
  | _ => ("java/lang/Throwable", "depth", "I", false)
def tyJ18 : Nat → FieldType := fun k => match k with
  | 0 => .object "java/lang/Throwable"
  | 1 => .array (.object "java/lang/StackTraceElement")
  | 2 => .object "java/util/List"
  | 3 => .object "java/lang/String"
  | 4 => .object "java/lang/Object"
  | _ => .int
abbrev wsJ180 : List Cond := u_ws RJ18 TJ18 6
theorem nmJ18 : ∀ a, a < 6 → ∀ b, b < 6 → a ≠ b → (TJ18 a).2.1 ≠ (TJ18 b).2.1 := by decide +kernel
theorem tyJ18_ok : ∀ k, k < 6 → parseFieldDescriptor (TJ18 k).2.2.1 = some (tyJ18 k) := by decide +kernel
abbrev cJ18_init : ByteArray := prog_61_method_1_code
def yJ18_init : MethodName := ⟨RJ18, "<init>", "()V"⟩
theorem q146 : (Jvm.Cond.initialized "java/util/NoSuchElementException") ∈ lw_all := lw_g (lw_at lw_m1 52 rfl) rfl
theorem q211 : (Jvm.Cond.selects "java/util/NoSuchElementException" ({ cls := "java/lang/Throwable", name := "fillInStackTrace", desc := "()Ljava/lang/Throwable;" } : Jvm.MethodName) ({ cls := "java/lang/Throwable", name := "fillInStackTrace", desc := "()Ljava/lang/Throwable;" } : Jvm.MethodName)) ∈ lw_all := lw_g (lw_at lw_m1 117 rfl) rfl
theorem q720 : (Jvm.Cond.selects "java/util/NoSuchElementException" ({ cls := "java/lang/Object", name := "getClass", desc := "()Ljava/lang/Class;" } : Jvm.MethodName) ({ cls := "java/lang/Object", name := "getClass", desc := "()Ljava/lang/Class;" } : Jvm.MethodName)) ∈ lw_all := lw_g (lw_at lw_m3 146 rfl) rfl
theorem q1717 : (Jvm.Cond.instantiable "java/util/NoSuchElementException" (6 : Nat)) ∈ lw_all := lw_g (lw_at lw_m7 183 rfl) rfl
theorem q1718 : (Jvm.Cond.castable "java/util/NoSuchElementException" "java/util/NoSuchElementException") ∈ lw_tbl := lw_at lw_m7 184 rfl
theorem q1719 : (Jvm.Cond.selects "java/util/NoSuchElementException" ({ cls := "java/lang/Throwable", name := "fillInStackTrace", desc := "(I)Ljava/lang/Throwable;" } : Jvm.MethodName) ({ cls := "java/lang/Throwable", name := "fillInStackTrace", desc := "(I)Ljava/lang/Throwable;" } : Jvm.MethodName)) ∈ lw_all := lw_g (lw_at lw_m7 185 rfl) rfl
theorem q1720 : (Jvm.Cond.lays "java/util/NoSuchElementException" "java/lang/Throwable" "cause" "Ljava/lang/Throwable;") ∈ lw_all := lw_g (lw_at lw_m7 186 rfl) rfl
theorem q1721 : (Jvm.Cond.lays "java/util/NoSuchElementException" "java/lang/Throwable" "stackTrace" "[Ljava/lang/StackTraceElement;") ∈ lw_all := lw_g (lw_at lw_m7 187 rfl) rfl
theorem q1722 : (Jvm.Cond.lays "java/util/NoSuchElementException" "java/lang/Throwable" "suppressedExceptions" "Ljava/util/List;") ∈ lw_all := lw_g (lw_at lw_m7 188 rfl) rfl
theorem q1723 : (Jvm.Cond.lays "java/util/NoSuchElementException" "java/lang/Throwable" "detailMessage" "Ljava/lang/String;") ∈ lw_all := lw_g (lw_at lw_m7 189 rfl) rfl
theorem q1724 : (Jvm.Cond.lays "java/util/NoSuchElementException" "java/lang/Throwable" "backtrace" "Ljava/lang/Object;") ∈ lw_all := lw_g (lw_at lw_m7 190 rfl) rfl
theorem q1726 : (Jvm.Cond.instanceMethod ({ cls := "java/util/NoSuchElementException", name := "<init>", desc := "()V" } : Jvm.MethodName)) ∈ lw_all := lw_g (lw_at lw_m7 192 rfl) rfl
theorem q1727 : (Jvm.Cond.code ({ cls := "java/util/NoSuchElementException", name := "<init>", desc := "()V" } : Jvm.MethodName) prog_61_method_1_code (1 : Nat) (Option.none : Option Jvm.ClassFile.FieldType)) ∈ lw_all := lw_g (lw_at lw_m7 193 rfl) rfl
theorem q1728 : (Jvm.Cond.methodLink "java/util/NoSuchElementException" (1 : Nat) ({ cls := "java/lang/RuntimeException", name := "<init>", desc := "()V" } : Jvm.MethodName)) ∈ lw_all := lw_g (lw_at lw_m7 194 rfl) rfl
theorem q1729 : (Jvm.Cond.lays "java/util/NoSuchElementException" "java/lang/Throwable" "depth" "I") ∈ lw_all := lw_g (lw_at lw_m7 195 rfl) rfl
theorem q1730 : (Jvm.Cond.superclass "java/util/NoSuchElementException" "java/lang/RuntimeException") ∈ lw_all := lw_g (lw_at lw_m7 196 rfl) rfl
theorem q2597 : (Jvm.Cond.castable "java/util/NoSuchElementException" "java/lang/Object") ∈ lw_tbl := lw_at lw_m11 103 rfl
theorem in_J18 : ∀ w ∈ wsJ180, w ∈ lw_all := lw_in wsJ180 [1720, 1721, 1722, 1723, 1724, 1729] (by decide +kernel) (by decide +kernel)

/-! java/lang/Object -/
set_option maxRecDepth 100000
def RJ19 : String := "java/lang/Object"
abbrev cJ19_init : ByteArray := object_method_1_code
def yJ19_init : MethodName := ⟨RJ19, "<init>", "()V"⟩
theorem q153 : (Jvm.Cond.instanceMethod ({ cls := "java/lang/Object", name := "<init>", desc := "()V" } : Jvm.MethodName)) ∈ lw_all := lw_g (lw_at lw_m1 59 rfl) rfl
theorem q154 : (Jvm.Cond.code ({ cls := "java/lang/Object", name := "<init>", desc := "()V" } : Jvm.MethodName) object_method_1_code (1 : Nat) (Option.none : Option Jvm.ClassFile.FieldType)) ∈ lw_all := lw_g (lw_at lw_m1 60 rfl) rfl
theorem q287 : (Jvm.Cond.native ({ cls := "java/lang/Object", name := "clone", desc := "()Ljava/lang/Object;" } : Jvm.MethodName)) ∈ lw_all := lw_g (lw_at lw_m1 193 rfl) rfl
theorem q288 : (Jvm.Cond.instanceMethod ({ cls := "java/lang/Object", name := "clone", desc := "()Ljava/lang/Object;" } : Jvm.MethodName)) ∈ lw_all := lw_g (lw_at lw_m1 194 rfl) rfl
theorem q688 : (Jvm.Cond.instanceMethod ({ cls := "java/lang/Object", name := "getClass", desc := "()Ljava/lang/Class;" } : Jvm.MethodName)) ∈ lw_all := lw_g (lw_at lw_m3 114 rfl) rfl
theorem q689 : (Jvm.Cond.sameMethod "java/lang/Object" "java/lang/Object" "getClass" "()Ljava/lang/Class;") ∈ lw_all := lw_g (lw_at lw_m3 115 rfl) rfl
theorem q721 : (Jvm.Cond.native ({ cls := "java/lang/Object", name := "getClass", desc := "()Ljava/lang/Class;" } : Jvm.MethodName)) ∈ lw_all := lw_g (lw_at lw_m3 147 rfl) rfl
theorem q2560 : (Jvm.Cond.initialized "java/lang/Object") ∈ lw_all := lw_g (lw_at lw_m11 66 rfl) rfl
theorem q2601 : (Jvm.Cond.declares ({ cls := "java/lang/Object", name := "getClass", desc := "()Ljava/lang/Class;" } : Jvm.MethodName)) ∈ lw_tbl := lw_at lw_m11 107 rfl

/-! java/lang/System$2 -/
set_option maxRecDepth 100000
def RJ20 : String := "java/lang/System$2"
abbrev cJ20_getUTF16Char : ByteArray := prog_51_method_45_code
def yJ20_getUTF16Char : MethodName := ⟨RJ20, "getUTF16Char", "([BI)C"⟩
theorem q718 : (Jvm.Cond.selects "java/lang/System$2" ({ cls := "java/lang/Object", name := "getClass", desc := "()Ljava/lang/Class;" } : Jvm.MethodName) ({ cls := "java/lang/Object", name := "getClass", desc := "()Ljava/lang/Class;" } : Jvm.MethodName)) ∈ lw_all := lw_g (lw_at lw_m3 144 rfl) rfl
theorem q1034 : (Jvm.Cond.castable "java/lang/System$2" "jdk/internal/access/JavaLangAccess") ∈ lw_tbl := lw_at lw_m4 220 rfl
theorem q1035 : (Jvm.Cond.selects "java/lang/System$2" ({ cls := "jdk/internal/access/JavaLangAccess", name := "getUTF16Char", desc := "([BI)C" } : Jvm.MethodName) ({ cls := "java/lang/System$2", name := "getUTF16Char", desc := "([BI)C" } : Jvm.MethodName)) ∈ lw_all := lw_g (lw_at lw_m4 221 rfl) rfl
theorem q1036 : (Jvm.Cond.unhidden "java/lang/System$2" "getUTF16Char" "([BI)C") ∈ lw_tbl := lw_at lw_m4 222 rfl
theorem q1037 : (Jvm.Cond.instanceMethod ({ cls := "java/lang/System$2", name := "getUTF16Char", desc := "([BI)C" } : Jvm.MethodName)) ∈ lw_all := lw_g (lw_at lw_m4 223 rfl) rfl
theorem q1038 : (Jvm.Cond.publicMethod ({ cls := "java/lang/System$2", name := "getUTF16Char", desc := "([BI)C" } : Jvm.MethodName)) ∈ lw_tbl := lw_at lw_m4 224 rfl
theorem q1039 : (Jvm.Cond.code ({ cls := "java/lang/System$2", name := "getUTF16Char", desc := "([BI)C" } : Jvm.MethodName) prog_51_method_45_code (3 : Nat) (Option.some Jvm.ClassFile.FieldType.char)) ∈ lw_all := lw_g (lw_at lw_m4 225 rfl) rfl
theorem q1040 : (Jvm.Cond.methodLink "java/lang/System$2" (185 : Nat) ({ cls := "java/lang/StringUTF16", name := "getChar", desc := "([BI)C" } : Jvm.MethodName)) ∈ lw_all := lw_g (lw_at lw_m4 226 rfl) rfl
theorem q2579 : (Jvm.Cond.castable "java/lang/System$2" "java/lang/Object") ∈ lw_tbl := lw_at lw_m11 85 rfl

theorem q286 : (Jvm.Cond.sameMethod "[B" "java/lang/Object" "clone" "()Ljava/lang/Object;") ∈ lw_all := lw_g (lw_at lw_m1 192 rfl) rfl
set_option maxRecDepth 100000
theorem q289 : (Jvm.Cond.selects "[B" ({ cls := "[B", name := "clone", desc := "()Ljava/lang/Object;" } : Jvm.MethodName) ({ cls := "java/lang/Object", name := "clone", desc := "()Ljava/lang/Object;" } : Jvm.MethodName)) ∈ lw_all := lw_g (lw_at lw_m1 195 rfl) rfl
theorem q290 : (Jvm.Cond.castable "[B" "java/lang/Cloneable") ∈ lw_tbl := lw_at lw_m1 196 rfl
theorem q2604 : (Jvm.Cond.castable "[B" "java/lang/Object") ∈ lw_tbl := lw_at lw_m11 110 rfl
theorem q2603 : (Jvm.Cond.castable "[I" "java/lang/Object") ∈ lw_tbl := lw_at lw_m11 109 rfl
set_option maxRecDepth 100000
theorem q2608 : (Jvm.Cond.castable "[J" "java/lang/Object") ∈ lw_tbl := lw_at lw_m11 114 rfl
set_option maxRecDepth 100000
theorem q2605 : (Jvm.Cond.castable "[LLeaningMarket$Market;" "java/lang/Object") ∈ lw_tbl := lw_at lw_m11 111 rfl
set_option maxRecDepth 100000
theorem q2599 : (Jvm.Cond.sameMethod "[Ljava/lang/Object;" "java/lang/Object" "getClass" "()Ljava/lang/Class;") ∈ lw_all := lw_g (lw_at lw_m11 105 rfl) rfl
set_option maxRecDepth 100000
theorem q2600 : (Jvm.Cond.selects "[Ljava/lang/Object;" ({ cls := "java/lang/Object", name := "getClass", desc := "()Ljava/lang/Class;" } : Jvm.MethodName) ({ cls := "java/lang/Object", name := "getClass", desc := "()Ljava/lang/Class;" } : Jvm.MethodName)) ∈ lw_all := lw_g (lw_at lw_m11 106 rfl) rfl
theorem q2602 : (Jvm.Cond.castable "[Ljava/lang/Object;" "java/lang/Object") ∈ lw_tbl := lw_at lw_m11 108 rfl
theorem q2606 : (Jvm.Cond.castable "[Z" "java/lang/Object") ∈ lw_tbl := lw_at lw_m11 112 rfl
set_option maxRecDepth 100000
theorem q2607 : (Jvm.Cond.castable "[[I" "java/lang/Object") ∈ lw_tbl := lw_at lw_m11 113 rfl
set_option maxRecDepth 100000
theorem q114 : (Jvm.Cond.initialized "java/lang/Number") ∈ lw_all := lw_g (lw_at lw_m1 20 rfl) rfl
set_option maxRecDepth 100000
theorem q111 : (Jvm.Cond.initialized "java/lang/System") ∈ lw_all := lw_g (lw_at lw_m1 17 rfl) rfl
set_option maxRecDepth 100000
theorem q296 : (Jvm.Cond.static ({ cls := "java/lang/System", name := "arraycopy", desc := "(Ljava/lang/Object;ILjava/lang/Object;II)V" } : Jvm.MethodName)) ∈ lw_all := lw_g (lw_at lw_m1 202 rfl) rfl
theorem q297 : (Jvm.Cond.native ({ cls := "java/lang/System", name := "arraycopy", desc := "(Ljava/lang/Object;ILjava/lang/Object;II)V" } : Jvm.MethodName)) ∈ lw_all := lw_g (lw_at lw_m1 203 rfl) rfl
theorem q1032 : (Jvm.Cond.interfaceMethod "jdk/internal/access/JavaLangAccess" "jdk/internal/access/JavaLangAccess" "getUTF16Char" "([BI)C") ∈ lw_tbl := lw_at lw_m4 218 rfl
set_option maxRecDepth 100000
theorem q1033 : (Jvm.Cond.declares ({ cls := "jdk/internal/access/JavaLangAccess", name := "getUTF16Char", desc := "([BI)C" } : Jvm.MethodName)) ∈ lw_tbl := lw_at lw_m4 219 rfl
theorem q174 : (Jvm.Cond.arrayOver (Jvm.ClassFile.FieldType.object "java/lang/Object")) ∈ lw_tbl := lw_at lw_m1 80 rfl
set_option maxRecDepth 100000
theorem q249 : (Jvm.Cond.arrayClass Jvm.ClassFile.FieldType.int) ∈ lw_all := lw_g (lw_at lw_m1 155 rfl) rfl
theorem q250 : (Jvm.Cond.arrayClass Jvm.ClassFile.FieldType.byte) ∈ lw_all := lw_g (lw_at lw_m1 156 rfl) rfl
theorem q628 : (Jvm.Cond.arrayOver (Jvm.ClassFile.FieldType.object "LeaningMarket$Market")) ∈ lw_tbl := lw_at lw_m3 54 rfl
theorem q805 : (Jvm.Cond.arrayClass Jvm.ClassFile.FieldType.boolean) ∈ lw_all := lw_g (lw_at lw_m3 231 rfl) rfl
theorem q1951 : (Jvm.Cond.arrayOver (Jvm.ClassFile.FieldType.array Jvm.ClassFile.FieldType.int)) ∈ lw_tbl := lw_at lw_m8 177 rfl
theorem q2538 : (Jvm.Cond.arrayClass Jvm.ClassFile.FieldType.long) ∈ lw_all := lw_g (lw_at lw_m11 44 rfl) rfl
theorem q2609 : (Jvm.Cond.arrayClass Jvm.ClassFile.FieldType.char) ∈ lw_all := lw_g (lw_at lw_m11 115 rfl) rfl
theorem q2610 : (Jvm.Cond.arrayClass Jvm.ClassFile.FieldType.short) ∈ lw_all := lw_g (lw_at lw_m11 116 rfl) rfl
