set_option maxRecDepth 100000
/-! ===== tables, printed by wip/D-87674w/gen/tables.py ===== -/
def zD0 : Nat := 1639
/-- type and length of what the constructors make -/
def zs0 : List (Nat × Nat) := [(0, 0), (1, 0), (100, 64), (100, 8), (100, 8), (100, 64), (100, 5), (100, 5), (101, 64), (101, 32), (103, 9), (103, 9), (110, 16), (101, 33), (101, 33), (101, 33), (101, 33), (101, 33), (101, 33), (101, 33), (101, 33), (101, 33), (101, 33), (101, 33), (101, 33), (101, 33), (101, 33), (101, 33), (101, 33), (110, 8), (101, 32), (101, 32), (101, 32), (101, 32), (101, 32), (101, 32), (101, 32), (101, 32), (102, 16), (102, 8), (101, 300), (2, 0), (101, 8000), (100, 16), (111, 256)]
def zs1 : List (Nat × Nat) := [(102, 256), (3, 0), (101, 90), (101, 32), (101, 1), (101, 32), (6, 0)]
def zs2 : List (Nat × Nat) := [(100, 300), (100, 256), (100, 32), (100, 64), (100, 8), (100, 64), (100, 8), (100, 80), (100, 80), (100, 80), (100, 80), (100, 5), (100, 5), (100, 5), (100, 528), (102, 16), (102, 8), (100, 3000), (100, 3000), (100, 3000), (100, 3000), (100, 3000), (100, 3000)]
def zs3 : List (Nat × Nat) := [(100, 3000), (100, 3000), (100, 3000), (100, 2000), (100, 6000), (100, 8000), (100, 16), (102, 20000), (102, 20000), (102, 20000), (100, 20000), (100, 20000), (100, 20000), (100, 400000), (100, 3000), (100, 3000), (100, 14), (100, 14), (100, 300), (100, 30000), (100, 2000), (100, 200000), (102, 2000)]
def zsit (k : Nat) : Nat × Nat := if k % 2 = 0 then (3, 0) else (101, 90)
def zsty (a : Nat) : Nat × Nat := if a < 1586 then (if a < 45 then zs0.getD a (0, 0) else if a < 557 then zsit (a - 45) else if a < 560 then (if a = 557 then (4, 0) else if a = 558 then (112, 6000) else (5, 0)) else if a = 560 then (111, 256) else if a < 1073 then zsit (a - 561) else if a = 1073 then (111, 256) else zsit (a - 1074)) else if a < 1593 then zs1.getD (a - 1586) (0, 0) else if a < 1616 then zs2.getD (a - 1593) (0, 0) else zs3.getD (a - 1616) (0, 0)
/-- a field's kind: 0 int, 1 boolean, 2 byte, 3 char, 4 reference -/
def zfk (f : Nat) : Nat := if f < 103 then (if f < 51 then (if f < 25 then (if f < 12 then (if f < 6 then (if f < 3 then (if f < 1 then (4) else (if f < 2 then (4) else (4))) else (if f < 4 then (4) else (if f < 5 then (4) else (0)))) else (if f < 9 then (if f < 7 then (0) else (if f < 8 then (4) else (0))) else (if f < 10 then (4) else (if f < 11 then (4) else (4))))) else (if f < 18 then (if f < 15 then (if f < 13 then (4) else (if f < 14 then (4) else (1))) else (if f < 16 then (0) else (if f < 17 then (0) else (4)))) else (if f < 21 then (if f < 19 then (4) else (if f < 20 then (0) else (4))) else (if f < 23 then (if f < 22 then (0) else (0)) else (if f < 24 then (0) else (4)))))) else (if f < 38 then (if f < 31 then (if f < 28 then (if f < 26 then (4) else (if f < 27 then (4) else (4))) else (if f < 29 then (4) else (if f < 30 then (4) else (4)))) else (if f < 34 then (if f < 32 then (4) else (if f < 33 then (4) else (4))) else (if f < 36 then (if f < 35 then (4) else (4)) else (if f < 37 then (0) else (0))))) else (if f < 44 then (if f < 41 then (if f < 39 then (1) else (if f < 40 then (4) else (0))) else (if f < 42 then (4) else (if f < 43 then (0) else (4)))) else (if f < 47 then (if f < 45 then (4) else (if f < 46 then (4) else (4))) else (if f < 49 then (if f < 48 then (0) else (0)) else (if f < 50 then (0) else (0))))))) else (if f < 77 then (if f < 64 then (if f < 57 then (if f < 54 then (if f < 52 then (0) else (if f < 53 then (0) else (4))) else (if f < 55 then (4) else (if f < 56 then (0) else (4)))) else (if f < 60 then (if f < 58 then (0) else (if f < 59 then (4) else (4))) else (if f < 62 then (if f < 61 then (4) else (4)) else (if f < 63 then (4) else (4))))) else (if f < 70 then (if f < 67 then (if f < 65 then (4) else (if f < 66 then (4) else (4))) else (if f < 68 then (4) else (if f < 69 then (4) else (4)))) else (if f < 73 then (if f < 71 then (4) else (if f < 72 then (4) else (4))) else (if f < 75 then (if f < 74 then (0) else (0)) else (if f < 76 then (4) else (4)))))) else (if f < 90 then (if f < 83 then (if f < 80 then (if f < 78 then (4) else (if f < 79 then (4) else (4))) else (if f < 81 then (4) else (if f < 82 then (4) else (4)))) else (if f < 86 then (if f < 84 then (4) else (if f < 85 then (0) else (0))) else (if f < 88 then (if f < 87 then (0) else (1)) else (if f < 89 then (1) else (0))))) else (if f < 96 then (if f < 93 then (if f < 91 then (0) else (if f < 92 then (0) else (0))) else (if f < 94 then (0) else (if f < 95 then (0) else (0)))) else (if f < 99 then (if f < 97 then (4) else (if f < 98 then (0) else (0))) else (if f < 101 then (if f < 100 then (4) else (0)) else (if f < 102 then (4) else (0)))))))) else (if f < 155 then (if f < 129 then (if f < 116 then (if f < 109 then (if f < 106 then (if f < 104 then (0) else (if f < 105 then (0) else (4))) else (if f < 107 then (4) else (if f < 108 then (4) else (4)))) else (if f < 112 then (if f < 110 then (4) else (if f < 111 then (4) else (4))) else (if f < 114 then (if f < 113 then (0) else (4)) else (if f < 115 then (0) else (4))))) else (if f < 122 then (if f < 119 then (if f < 117 then (4) else (if f < 118 then (4) else (4))) else (if f < 120 then (0) else (if f < 121 then (4) else (4)))) else (if f < 125 then (if f < 123 then (4) else (if f < 124 then (4) else (0))) else (if f < 127 then (if f < 126 then (0) else (0)) else (if f < 128 then (0) else (0)))))) else (if f < 142 then (if f < 135 then (if f < 132 then (if f < 130 then (0) else (if f < 131 then (0) else (4))) else (if f < 133 then (0) else (if f < 134 then (0) else (0)))) else (if f < 138 then (if f < 136 then (4) else (if f < 137 then (8) else (8))) else (if f < 140 then (if f < 139 then (0) else (0)) else (if f < 141 then (0) else (4))))) else (if f < 148 then (if f < 145 then (if f < 143 then (4) else (if f < 144 then (4) else (0))) else (if f < 146 then (0) else (if f < 147 then (0) else (1)))) else (if f < 151 then (if f < 149 then (1) else (if f < 150 then (1) else (1))) else (if f < 153 then (if f < 152 then (1) else (1)) else (if f < 154 then (1) else (1))))))) else (if f < 181 then (if f < 168 then (if f < 161 then (if f < 158 then (if f < 156 then (1) else (if f < 157 then (1) else (4))) else (if f < 159 then (4) else (if f < 160 then (5) else (3)))) else (if f < 164 then (if f < 162 then (4) else (if f < 163 then (4) else (5))) else (if f < 166 then (if f < 165 then (0) else (1)) else (if f < 167 then (4) else (0))))) else (if f < 174 then (if f < 171 then (if f < 169 then (1) else (if f < 170 then (4) else (0))) else (if f < 172 then (0) else (if f < 173 then (4) else (1)))) else (if f < 177 then (if f < 175 then (4) else (if f < 176 then (0) else (0))) else (if f < 179 then (if f < 178 then (4) else (4)) else (if f < 180 then (0) else (0)))))) else (if f < 194 then (if f < 187 then (if f < 184 then (if f < 182 then (4) else (if f < 183 then (4) else (4))) else (if f < 185 then (4) else (if f < 186 then (4) else (4)))) else (if f < 190 then (if f < 188 then (0) else (if f < 189 then (4) else (4))) else (if f < 192 then (if f < 191 then (4) else (0)) else (if f < 193 then (0) else (0))))) else (if f < 200 then (if f < 197 then (if f < 195 then (1) else (if f < 196 then (1) else (1))) else (if f < 198 then (4) else (if f < 199 then (4) else (4)))) else (if f < 203 then (if f < 201 then (2) else (if f < 202 then (6) else (7))) else (if f < 205 then (if f < 204 then (4) else (2)) else (if f < 206 then (1) else (0))))))))
/-- the fields of a class -/
def zfl (c : Nat) : List Nat := if c < 12 then (if c < 6 then (if c < 3 then (if c < 1 then ([0, 1, 2, 3, 4, 5, 6, 7, 8, 9, 10, 11, 12, 13, 14, 15, 16, 17, 18, 19, 20, 21, 22, 23, 24]) else (if c < 2 then ([25, 26, 27, 28, 29, 30, 31, 32, 33, 34]) else ([35, 36, 37, 38]))) else (if c < 4 then ([39, 40]) else (if c < 5 then ([41, 42]) else ([43, 44, 45, 46, 47, 48, 49, 50, 51, 52, 53])))) else (if c < 9 then (if c < 7 then ([54, 55, 56, 57, 58, 59, 60, 61, 62, 63, 64, 65, 66, 67, 68, 69, 70, 71, 72, 73, 74, 75, 76, 77, 78, 79, 80, 81, 82, 83, 84, 85, 86, 87, 88, 89, 90, 91, 92, 93, 94, 95, 96, 97, 98, 99, 100, 101, 102, 103, 104, 105, 106, 107, 108, 109, 110, 111, 112, 113, 114, 115, 116, 117, 118, 119, 120, 121, 122, 123, 124, 125, 126, 127, 128, 129, 130, 131, 132]) else (if c < 8 then ([133, 134, 135]) else ([136, 137]))) else (if c < 10 then ([138, 139, 140, 141, 142, 143]) else (if c < 11 then ([]) else ([144, 145, 146, 147, 148, 149, 150, 151, 152, 153, 154, 155, 156, 157, 158, 160, 161, 162]))))) else (if c < 18 then (if c < 15 then (if c < 13 then ([]) else (if c < 14 then ([144, 145, 146, 147, 148, 149, 150, 151, 152, 153, 154, 155, 156, 157, 158, 164, 165, 166]) else ([144, 145, 146, 147, 148, 149, 150, 151, 152, 153, 154, 155, 156, 157, 158, 167, 168, 169]))) else (if c < 16 then ([144, 145, 146, 147, 148, 149, 150, 151, 152, 153, 154, 155, 156, 157, 158, 170, 171, 172]) else (if c < 17 then ([144, 145, 146, 147, 148, 149, 150, 151, 152, 153, 154, 155, 156, 157, 158, 173, 174]) else ([144, 145, 146, 147, 148, 149, 150, 151, 152, 153, 154, 155, 156, 157, 158, 175, 176, 177, 178])))) else (if c < 21 then (if c < 19 then ([144, 145, 146, 147, 148, 149, 150, 151, 152, 153, 154, 155, 156, 157, 158, 179, 180, 181, 182]) else (if c < 20 then ([144, 145, 146, 147, 148, 149, 150, 151, 152, 153, 154, 155, 156, 157, 158, 183, 184, 185, 186]) else ([144, 145, 146, 147, 148, 149, 150, 151, 152, 153, 154, 155, 156, 157, 158, 187, 188, 189, 190]))) else (if c < 22 then ([191, 192, 193, 194, 195, 196, 197, 198]) else (if c < 23 then ([199, 200, 201, 202]) else ([203, 204, 205, 206])))))
def zhas (c f : Nat) : Bool := c < 24 && (zfl c).contains f
def zslots (c : Nat) : Nat := if c < 12 then (if c < 6 then (if c < 3 then (if c < 1 then (25) else (if c < 2 then (10) else (4))) else (if c < 4 then (2) else (if c < 5 then (2) else (11)))) else (if c < 9 then (if c < 7 then (79) else (if c < 8 then (3) else (8))) else (if c < 10 then (6) else (if c < 11 then (0) else (19))))) else (if c < 18 then (if c < 15 then (if c < 13 then (0) else (if c < 14 then (20) else (20))) else (if c < 16 then (20) else (if c < 17 then (19) else (21)))) else (if c < 21 then (if c < 19 then (20) else (if c < 20 then (20) else (20))) else (if c < 22 then (8) else (if c < 23 then (4) else (4)))))
/-- which elements an array of references takes -/
def zput (t v : Nat) : Bool := (t == 111 && v == 3) || (t == 112 && v == 21) || (t == 114 && v == 9) || (t == 113 && (v == 11 || v == 13 || v == 14 || v == 15 || v == 16 || v == 17 || v == 18 || v == 19 || v == 20))
/-- objects that have the dropped fields -/
def zdr (f t : Nat) : Bool := (f == 159 && (t == 11 || t == 13 || t == 14 || t == 15 || t == 16 || t == 17 || t == 18 || t == 19 || t == 20)) || (f == 163 && (t == 13 || t == 14 || t == 15 || t == 16 || t == 17))
/-- where instanceof is answered -/
def zinst (t c : Nat) : Bool := (c == 11 && (t == 11 || t == 14 || t == 15)) || (c == 22 && t == 22)
/-- the own outer reference of a class of fragments (fields 159 and 163, Node's and Leaf's, are not kept) -/
def zt0 (c : Nat) : Nat := if c < 12 then (if c < 6 then (if c < 3 then (if c < 1 then (0) else (if c < 2 then (0) else (0))) else (if c < 4 then (0) else (if c < 5 then (0) else (53)))) else (if c < 9 then (if c < 7 then (0) else (if c < 8 then (135) else (0))) else (if c < 10 then (143) else (if c < 11 then (159) else (162))))) else (if c < 18 then (if c < 15 then (if c < 13 then (163) else (if c < 14 then (166) else (169))) else (if c < 16 then (172) else (if c < 17 then (174) else (178)))) else (if c < 21 then (if c < 19 then (182) else (if c < 20 then (186) else (190))) else (if c < 22 then (0) else (if c < 23 then (0) else (0)))))
/-- final references of the classes of one object: the object, what it holds -/
def zfin (f : Nat) : Option (Nat × Nat) := if f < 207 then (if f < 103 then (if f < 51 then (if f < 25 then (if f < 12 then (if f < 6 then (if f < 3 then (if f < 1 then (some (0, 1)) else (if f < 2 then (some (0, 12)) else (some (0, 29)))) else (if f < 4 then (some (0, 38)) else (if f < 5 then (some (0, 39)) else (none)))) else (if f < 9 then (if f < 7 then (none) else (if f < 8 then (some (0, 40)) else (none))) else (if f < 10 then (none) else (if f < 11 then (none) else (some (0, 41)))))) else (if f < 18 then (if f < 15 then (if f < 13 then (some (0, 43)) else (if f < 14 then (none) else (none))) else (if f < 16 then (none) else (if f < 17 then (none) else (some (0, 44))))) else (if f < 21 then (if f < 19 then (some (0, 557)) else (if f < 20 then (none) else (some (0, 559)))) else (if f < 23 then (if f < 22 then (none) else (none)) else (if f < 24 then (none) else (some (0, 1589))))))) else (if f < 38 then (if f < 31 then (if f < 28 then (if f < 26 then (some (1, 2)) else (if f < 27 then (some (1, 3)) else (some (1, 4)))) else (if f < 29 then (some (1, 5)) else (if f < 30 then (some (1, 6)) else (some (1, 7))))) else (if f < 34 then (if f < 32 then (some (1, 8)) else (if f < 33 then (some (1, 9)) else (some (1, 10)))) else (if f < 36 then (if f < 35 then (some (1, 11)) else (some (41, 42))) else (if f < 37 then (none) else (none))))) else (if f < 44 then (if f < 41 then (if f < 39 then (none) else (if f < 40 then (none) else (none))) else (if f < 42 then (some (557, 558)) else (if f < 43 then (none) else (some (559, 560))))) else (if f < 47 then (if f < 45 then (some (559, 1073)) else (if f < 46 then (some (559, 1586)) else (some (559, 1587)))) else (if f < 49 then (if f < 48 then (none) else (none)) else (if f < 50 then (none) else (none))))))) else (if f < 77 then (if f < 64 then (if f < 57 then (if f < 54 then (if f < 52 then (none) else (if f < 53 then (none) else (some (559, 0)))) else (if f < 55 then (some (1592, 1593)) else (if f < 56 then (none) else (some (1592, 1594))))) else (if f < 60 then (if f < 58 then (none) else (if f < 59 then (some (1592, 1595)) else (some (1592, 1596)))) else (if f < 62 then (if f < 61 then (some (1592, 1597)) else (some (1592, 1598))) else (if f < 63 then (some (1592, 1599)) else (some (1592, 1600)))))) else (if f < 70 then (if f < 67 then (if f < 65 then (some (1592, 1601)) else (if f < 66 then (some (1592, 1602)) else (some (1592, 1603)))) else (if f < 68 then (some (1592, 1604)) else (if f < 69 then (some (1592, 1605)) else (some (1592, 1606))))) else (if f < 73 then (if f < 71 then (some (1592, 1607)) else (if f < 72 then (some (1592, 1608)) else (some (1592, 1609)))) else (if f < 75 then (if f < 74 then (none) else (none)) else (if f < 76 then (some (1592, 1610)) else (some (1592, 1611))))))) else (if f < 90 then (if f < 83 then (if f < 80 then (if f < 78 then (some (1592, 1612)) else (if f < 79 then (some (1592, 1613)) else (some (1592, 1614)))) else (if f < 81 then (some (1592, 1615)) else (if f < 82 then (some (1592, 1616)) else (some (1592, 1617))))) else (if f < 86 then (if f < 84 then (some (1592, 1618)) else (if f < 85 then (none) else (none))) else (if f < 88 then (if f < 87 then (none) else (none)) else (if f < 89 then (none) else (none))))) else (if f < 96 then (if f < 93 then (if f < 91 then (none) else (if f < 92 then (none) else (none))) else (if f < 94 then (none) else (if f < 95 then (none) else (none)))) else (if f < 99 then (if f < 97 then (some (1592, 1619)) else (if f < 98 then (none) else (none))) else (if f < 101 then (if f < 100 then (some (1592, 1620)) else (none)) else (if f < 102 then (some (1592, 1621)) else (none)))))))) else (if f < 155 then (if f < 129 then (if f < 116 then (if f < 109 then (if f < 106 then (if f < 104 then (none) else (if f < 105 then (none) else (some (1592, 1622)))) else (if f < 107 then (some (1592, 1623)) else (if f < 108 then (some (1592, 1624)) else (some (1592, 1625))))) else (if f < 112 then (if f < 110 then (some (1592, 1626)) else (if f < 111 then (some (1592, 1627)) else (some (1592, 1628)))) else (if f < 114 then (if f < 113 then (none) else (some (1592, 1629))) else (if f < 115 then (none) else (some (1592, 1630)))))) else (if f < 122 then (if f < 119 then (if f < 117 then (some (1592, 1631)) else (if f < 118 then (some (1592, 1632)) else (some (1592, 1633)))) else (if f < 120 then (none) else (if f < 121 then (some (1592, 1634)) else (some (1592, 1635))))) else (if f < 125 then (if f < 123 then (some (1592, 1636)) else (if f < 124 then (some (1592, 1637)) else (none))) else (if f < 127 then (if f < 126 then (none) else (none)) else (if f < 128 then (none) else (none)))))) else (if f < 142 then (if f < 135 then (if f < 132 then (if f < 130 then (none) else (if f < 131 then (none) else (some (1592, 1638)))) else (if f < 133 then (none) else (if f < 134 then (none) else (none)))) else (if f < 138 then (if f < 136 then (none) else (if f < 137 then (none) else (none))) else (if f < 140 then (if f < 139 then (none) else (none)) else (if f < 141 then (none) else (none))))) else (if f < 148 then (if f < 145 then (if f < 143 then (none) else (if f < 144 then (none) else (none))) else (if f < 146 then (none) else (if f < 147 then (none) else (none)))) else (if f < 151 then (if f < 149 then (none) else (if f < 150 then (none) else (none))) else (if f < 153 then (if f < 152 then (none) else (none)) else (if f < 154 then (none) else (none))))))) else (if f < 181 then (if f < 168 then (if f < 161 then (if f < 158 then (if f < 156 then (none) else (if f < 157 then (none) else (none))) else (if f < 159 then (none) else (if f < 160 then (none) else (none)))) else (if f < 164 then (if f < 162 then (none) else (if f < 163 then (none) else (none))) else (if f < 166 then (if f < 165 then (none) else (none)) else (if f < 167 then (none) else (none))))) else (if f < 174 then (if f < 171 then (if f < 169 then (none) else (if f < 170 then (none) else (none))) else (if f < 172 then (none) else (if f < 173 then (none) else (none)))) else (if f < 177 then (if f < 175 then (none) else (if f < 176 then (none) else (none))) else (if f < 179 then (if f < 178 then (none) else (none)) else (if f < 180 then (none) else (none)))))) else (if f < 194 then (if f < 187 then (if f < 184 then (if f < 182 then (none) else (if f < 183 then (none) else (none))) else (if f < 185 then (none) else (if f < 186 then (none) else (none)))) else (if f < 190 then (if f < 188 then (none) else (if f < 189 then (none) else (none))) else (if f < 192 then (if f < 191 then (none) else (none)) else (if f < 193 then (none) else (none))))) else (if f < 200 then (if f < 197 then (if f < 195 then (none) else (if f < 196 then (none) else (none))) else (if f < 198 then (none) else (if f < 199 then (none) else (none)))) else (if f < 203 then (if f < 201 then (none) else (if f < 202 then (none) else (none))) else (if f < 205 then (if f < 204 then (none) else (none)) else (if f < 206 then (none) else (none))))))))) else none
def zfinL : List (Nat × Nat × Nat) := [(0, 0, 1), (1, 0, 12), (2, 0, 29), (3, 0, 38), (4, 0, 39), (7, 0, 40), (11, 0, 41), (12, 0, 43), (17, 0, 44), (18, 0, 557), (20, 0, 559), (24, 0, 1589), (25, 1, 2), (26, 1, 3), (27, 1, 4), (28, 1, 5), (29, 1, 6), (30, 1, 7), (31, 1, 8), (32, 1, 9), (33, 1, 10), (34, 1, 11), (35, 41, 42), (41, 557, 558), (43, 559, 560), (44, 559, 1073), (45, 559, 1586), (46, 559, 1587), (53, 559, 0), (54, 1592, 1593), (56, 1592, 1594), (58, 1592, 1595), (59, 1592, 1596), (60, 1592, 1597), (61, 1592, 1598), (62, 1592, 1599), (63, 1592, 1600), (64, 1592, 1601), (65, 1592, 1602), (66, 1592, 1603), (67, 1592, 1604), (68, 1592, 1605), (69, 1592, 1606), (70, 1592, 1607), (71, 1592, 1608), (72, 1592, 1609), (75, 1592, 1610), (76, 1592, 1611), (77, 1592, 1612), (78, 1592, 1613), (79, 1592, 1614), (80, 1592, 1615), (81, 1592, 1616), (82, 1592, 1617), (83, 1592, 1618), (96, 1592, 1619), (99, 1592, 1620), (101, 1592, 1621), (105, 1592, 1622), (106, 1592, 1623), (107, 1592, 1624), (108, 1592, 1625), (109, 1592, 1626), (110, 1592, 1627), (111, 1592, 1628), (113, 1592, 1629), (115, 1592, 1630), (116, 1592, 1631), (117, 1592, 1632), (118, 1592, 1633), (120, 1592, 1634), (121, 1592, 1635), (122, 1592, 1636), (123, 1592, 1637), (131, 1592, 1638)]
theorem zfin_in {f i r : Nat} (h : zfin f = some (i, r)) : (f, i, r) ∈ zfinL := by
  have k : ∀ f, f < 207 → ∀ p, zfin f = some p → (f, p) ∈ zfinL := by decide +kernel
  by_cases hf : f < 207
  · exact k f hf _ h
  · simp [zfin, hf] at h
theorem zfinL_in : ∀ q ∈ zfinL, zfin q.1 = some q.2 := by decide +kernel
/-! ===== the abstract machine: state ===== -/
/-- int fields, reference fields, int arrays, long arrays, reference arrays, (type, length) of what is made later, next number, slots -/
abbrev zS : Type := (Nat → Nat → Int32) × (Nat → Nat → Option Nat) × (Nat → Nat → Int32) × (Nat → Nat → Int64) × (Nat → Nat → Option Nat) × (Nat → Nat × Nat) × Nat × Nat
def gI (S : zS) : Nat → Nat → Int32 := S.1
def gP (S : zS) : Nat → Nat → Option Nat := S.2.1
def gA (S : zS) : Nat → Nat → Int32 := S.2.2.1
def gL (S : zS) : Nat → Nat → Int64 := S.2.2.2.1
def gQ (S : zS) : Nat → Nat → Option Nat := S.2.2.2.2.1
def gT (S : zS) : Nat → Nat × Nat := S.2.2.2.2.2.1
def gN (S : zS) : Nat := S.2.2.2.2.2.2.1
def gZ (S : zS) : Nat := S.2.2.2.2.2.2.2
def zu {α : Type} (m : Nat → Nat → α) (f a : Nat) (v : α) : Nat → Nat → α := fun g c => if g = f then (if c = a then v else m g c) else m g c
def sI (S : zS) (f a : Nat) (v : Int32) : zS := (zu S.1 f a v, S.2)
def sP (S : zS) (f a : Nat) (v : Option Nat) : zS := (S.1, zu S.2.1 f a v, S.2.2)
def sA (S : zS) (a j : Nat) (v : Int32) : zS := (S.1, S.2.1, zu S.2.2.1 a j v, S.2.2.2)
def sL (S : zS) (a j : Nat) (v : Int64) : zS := (S.1, S.2.1, S.2.2.1, zu S.2.2.2.1 a j v, S.2.2.2.2)
def sQ (S : zS) (a j : Nat) (v : Option Nat) : zS := (S.1, S.2.1, S.2.2.1, S.2.2.2.1, zu S.2.2.2.2.1 a j v, S.2.2.2.2.2)
/-- one more cell, of this type and length, of so many slots; everything in it is nought -/
def sNew (S : zS) (ty len sl : Nat) : zS :=
  (fun g c => if c = gN S then 0 else S.1 g c, fun g c => if c = gN S then none else S.2.1 g c, fun a j => if a = gN S then 0 else S.2.2.1 a j, fun a j => if a = gN S then 0 else S.2.2.2.1 a j,
   fun a j => if a = gN S then none else S.2.2.2.2.1 a j, fun a => if a = gN S then (ty, len) else S.2.2.2.2.2.1 a, gN S + 1, gZ S + sl)
/-- another type and length -/
def sT (S : zS) (a ty len : Nat) : zS := (S.1, S.2.1, S.2.2.1, S.2.2.2.1, S.2.2.2.2.1, (fun c => if c = a then (ty, len) else S.2.2.2.2.2.1 c), S.2.2.2.2.2.2)
def ztyp (S : zS) (a : Nat) : Nat := if a < zD0 then (zsty a).1 else (gT S a).1
def zlen (S : zS) (a : Nat) : Nat := if a < zD0 then (zsty a).2 else (gT S a).2
def zrf (r : Option Nat) : Value := match r with
  | none => .null
  | some i => .ref i
/-! ===== locals ===== -/
def zcl (L : List Value) (i : Nat) : List Value := match i with
  | 0 => L
  | j + 1 => match L.getD j .null with
    | .long _ => L.set j (.retAddr 0)
    | .double _ => L.set j (.retAddr 0)
    | _ => L
def zst1 (L : List Value) (i : Nat) (v : Value) : List Value := (zcl L i).set i v
def zst2 (L : List Value) (i : Nat) (v : Value) : List Value := ((zcl L i).set i v).set (i + 1) (.retAddr 0)
def zrep : Nat → List Value
  | 0 => []
  | n + 1 => .retAddr 0 :: zrep n
def zpad : List Value → Nat → List Value
  | [], n => zrep n
  | .long x :: vs, n => .long x :: .retAddr 0 :: zpad vs (n - 2)
  | .double x :: vs, n => .double x :: .retAddr 0 :: zpad vs (n - 2)
  | v :: vs, n => v :: zpad vs (n - 1)

/-- pc, instruction, length, a value, a number, a switch's rows, a call's rows -/
abbrev zE : Type := Nat × Instr × Nat × Value × Nat × List (Int32 × Nat) × List (Nat × Nat)
def zlk : List (Nat × List zE) → Nat → Option zE
  | [], _ => none
  | (hi, l) :: t, pc => if pc < hi then l.find? (fun e => e.1 == pc) else zlk t pc
def zcat (v : Value) : Nat := match v with
  | .long _ => 2
  | .double _ => 2
  | _ => 1
def zsum : List Value → Nat
  | [] => 0
  | v :: t => zcat v + zsum t
abbrev zR : Type := Option (Option Prop × Nat × List Value × List Value × zS)
def zone (nx : Nat) (L st : List Value) (S : zS) : zR := some (none, nx, L, st, S)
def zif (c : Prop) (nx : Nat) (L st : List Value) (S : zS) : zR := some (some c, nx, L, st, S)
/-- is the receiver's class known by its number alone? (classes of one object) -/
def zown (vt : List (Nat × Nat)) (a : Nat) : Option Bool := match vt with
  | [] => none
  | (i, _) :: _ => some (Nat.beq a i)
def zld (e : zE) (nx : Nat) (L st : List Value) (S : zS) : zR := match e.2.1 with
  | .iload _ => match L.getD e.2.2.2.2.1 .null with
    | .int v => zone nx L (.int v :: st) S
    | _ => none
  | .iload_n _ => match L.getD e.2.2.2.2.1 .null with
    | .int v => zone nx L (.int v :: st) S
    | _ => none
  | .lload _ => match L.getD e.2.2.2.2.1 .null with
    | .long v => zone nx L (.long v :: st) S
    | _ => none
  | .lload_n _ => match L.getD e.2.2.2.2.1 .null with
    | .long v => zone nx L (.long v :: st) S
    | _ => none
  | .aload _ => match L.getD e.2.2.2.2.1 (.int 0) with
    | .ref v => zone nx L (.ref v :: st) S
    | .null => zone nx L (.null :: st) S
    | _ => none
  | .aload_n _ => match L.getD e.2.2.2.2.1 (.int 0) with
    | .ref v => zone nx L (.ref v :: st) S
    | .null => zone nx L (.null :: st) S
    | _ => none
  | _ => none
def zstr (e : zE) (nx : Nat) (L st : List Value) (S : zS) : zR := match e.2.1, st with
  | .istore _, .int v :: r => zone nx (zst1 L e.2.2.2.2.1 (.int v)) r S
  | .istore_n _, .int v :: r => zone nx (zst1 L e.2.2.2.2.1 (.int v)) r S
  | .lstore _, .long v :: r => zone nx (zst2 L e.2.2.2.2.1 (.long v)) r S
  | .lstore_n _, .long v :: r => zone nx (zst2 L e.2.2.2.2.1 (.long v)) r S
  | .astore _, .ref v :: r => zone nx (zst1 L e.2.2.2.2.1 (.ref v)) r S
  | .astore_n _, .ref v :: r => zone nx (zst1 L e.2.2.2.2.1 (.ref v)) r S
  | .astore _, .null :: r => zone nx (zst1 L e.2.2.2.2.1 .null) r S
  | .astore_n _, .null :: r => zone nx (zst1 L e.2.2.2.2.1 .null) r S
  | _, _ => none
def zint (e : zE) (nx : Nat) (L st : List Value) (S : zS) : zR := match e.2.1, st with
  | .iadd, .int y :: .int x :: r => zone nx L (.int (x + y) :: r) S
  | .isub, .int y :: .int x :: r => zone nx L (.int (x - y) :: r) S
  | .imul, .int y :: .int x :: r => zone nx L (.int (x * y) :: r) S
  | .iand, .int y :: .int x :: r => zone nx L (.int (x &&& y) :: r) S
  | .ior, .int y :: .int x :: r => zone nx L (.int (x ||| y) :: r) S
  | .ixor, .int y :: .int x :: r => zone nx L (.int (x ^^^ y) :: r) S
  | .ishl, .int y :: .int x :: r => zone nx L (.int (x <<< (y &&& 31)) :: r) S
  | .ishr, .int y :: .int x :: r => zone nx L (.int (x >>> (y &&& 31)) :: r) S
  | .iushr, .int y :: .int x :: r => zone nx L (.int ((x.toUInt32 >>> (y.toUInt32 &&& Int32.toUInt32 31)).toInt32) :: r) S
  | .idiv, .int y :: .int x :: r => zif (¬ y = 0) nx L (.int (x / y) :: r) S
  | .irem, .int y :: .int x :: r => zif (¬ y = 0) nx L (.int (x - x / y * y) :: r) S
  | .ineg, .int x :: r => zone nx L (.int (-x) :: r) S
  | .i2l, .int x :: r => zone nx L (.long x.toInt64 :: r) S
  | .i2b, .int x :: r => zone nx L (.int x.toInt8.toInt32 :: r) S
  | .i2c, .int x :: r => zone nx L (.int (x.toUInt32 % 65536).toInt32 :: r) S
  | .iinc _ _, st => match L.getD e.2.2.2.2.1 .null, e.2.2.2.1 with
    | .int x, .int c => zone nx (zst1 L e.2.2.2.2.1 (.int (x + c))) st S
    | _, _ => none
  | _, _ => none
def zlng (e : zE) (nx : Nat) (L st : List Value) (S : zS) : zR := match e.2.1, st with
  | .ladd, .long y :: .long x :: r => zone nx L (.long (x + y) :: r) S
  | .lsub, .long y :: .long x :: r => zone nx L (.long (x - y) :: r) S
  | .lmul, .long y :: .long x :: r => zone nx L (.long (x * y) :: r) S
  | .land, .long y :: .long x :: r => zone nx L (.long (x &&& y) :: r) S
  | .lor, .long y :: .long x :: r => zone nx L (.long (x ||| y) :: r) S
  | .lneg, .long x :: r => zone nx L (.long (-x) :: r) S
  | .lshl, .int y :: .long x :: r => zone nx L (.long (x <<< (y.toInt64 &&& 63)) :: r) S
  | .lshr, .int y :: .long x :: r => zone nx L (.long (x >>> (y.toInt64 &&& 63)) :: r) S
  | .lcmp, .long y :: .long x :: r => zone nx L (.int (lg_cmp x y) :: r) S
  | .l2i, .long x :: r => zone nx L (.int x.toInt32 :: r) S
  | _, _ => none
def zstk (e : zE) (nx : Nat) (L st : List Value) (S : zS) : zR := match e.2.1, st with
  | .aconst_null, st => zone nx L (.null :: st) S
  | .iconst _, st => zone nx L (e.2.2.2.1 :: st) S
  | .bipush _, st => zone nx L (e.2.2.2.1 :: st) S
  | .sipush _, st => zone nx L (e.2.2.2.1 :: st) S
  | .lconst _, st => zone nx L (e.2.2.2.1 :: st) S
  | .ldc _, st => zone nx L (e.2.2.2.1 :: st) S
  | .ldc_w _, st => zone nx L (e.2.2.2.1 :: st) S
  | .ldc2_w _, st => zone nx L (e.2.2.2.1 :: st) S
  | .getstatic _, st => zone nx L (e.2.2.2.1 :: st) S
  | .goto _, st => zone e.2.2.2.2.1 L st S
  | .dup, v :: r => match zcat v with
    | 1 => zone nx L (v :: v :: r) S
    | _ => none
  | .pop, v :: r => match zcat v with
    | 1 => zone nx L r S
    | _ => none
  | .dup_x1, v :: w :: r => match zcat v, zcat w with
    | 1, 1 => zone nx L (v :: w :: v :: r) S
    | _, _ => none
  | .dup2, v :: w :: r => match zcat v, zcat w with
    | 1, 1 => zone nx L (v :: w :: v :: w :: r) S
    | _, _ => none
  | _, _ => none
/-- may a cell of this type and length be made next? (the constructors' cells are known) -/
def znew (S : zS) (ty len : Nat) : Prop := (gN S < zD0 → zsty (gN S) = (ty, len)) ∧ gN S < 2000000
def zcopyOK (S : zS) (s d : Nat) (sp dp n : Int32) : Prop := ¬ n < 0 ∧ ¬ sp < 0 ∧ ¬ dp < 0 ∧ sp.toNatClampNeg + n.toNatClampNeg ≤ zlen S s ∧ dp.toNatClampNeg + n.toNatClampNeg ≤ zlen S d
def zcopy (S : zS) (s d sp dp n : Nat) : zS := (S.1, S.2.1, fun a j => if a = d then va_cpy (S.2.2.1 s) (S.2.2.1 d) sp dp n j else S.2.2.1 a j, S.2.2.2)
/-- n rows of k bytes, the outer array at o -/
def zmrow (o k : Nat) : Nat → Nat → zS → zS
  | 0, _, S => S
  | n + 1, i, S => zmrow o k n (i + 1) (sQ (sNew S 101 k k) o i (some (gN S)))
/-- are they the same? (of texts alone) -/
def zacm (e : zE) (nx : Nat) (L st : List Value) (S : zS) : zR := match st with
  | .ref y :: .ref x :: r => zif (ztyp S x = 22 ∧ ztyp S y = 22) (if x = y then nx else e.2.2.2.2.1) L r S
  | _ => none
def zmul (e : zE) (nx : Nat) (L st : List Value) (S : zS) : zR := match st with
  | .int k :: .int n :: r => zif ((n = 16 ∧ k = 33 ∧ gN S = 12) ∨ (n = 8 ∧ k = 32 ∧ gN S = 29)) nx L (.ref (gN S) :: r) (zmrow (gN S) k.toNatClampNeg n.toNatClampNeg 0 (sNew S 110 n.toNatClampNeg n.toNatClampNeg))
  | _ => none
/-- the clone of a row of bytes -/
def zcln (e : zE) (nx : Nat) (L st : List Value) (S : zS) : zR := match e.2.2.2.2.2.2, st with
  | (_, 9007) :: _, .ref a :: r => match decide (zsum r ≤ 8) with
    | true => zif (ztyp S a = 101 ∧ znew S 101 (zlen S a)) nx L (.ref (gN S) :: r) (zcopy (sNew S 101 (zlen S a) (zlen S a)) a (gN S) 0 0 (zlen S a))
    | false => none
  | _, _ => none
/-- arrays -/
def zarr (e : zE) (nx : Nat) (L st : List Value) (S : zS) : zR := match e.2.1, st with
  | .arraylength, .ref a :: r => zif (100 ≤ ztyp S a) nx L (.int (Int32.ofNat (zlen S a)) :: r) S
  | .iaload, .int i :: .ref a :: r => zif ((ztyp S a = 100 ∨ ztyp S a = 120) ∧ vp_in i (zlen S a)) nx L (.int (gA S a i.toNatClampNeg) :: r) S
  | .baload, .int i :: .ref a :: r => zif ((ztyp S a = 101 ∨ ztyp S a = 102 ∨ ztyp S a = 121) ∧ vp_in i (zlen S a)) nx L (.int (gA S a i.toNatClampNeg) :: r) S
  | .laload, .int i :: .ref a :: r => zif (ztyp S a = 103 ∧ vp_in i (zlen S a)) nx L (.long (gL S a i.toNatClampNeg) :: r) S
  | .aaload, .int i :: .ref a :: r => zif ((110 ≤ ztyp S a ∧ ztyp S a ≤ 114) ∧ vp_in i (zlen S a)) nx L (zrf (gQ S a i.toNatClampNeg) :: r) S
  | .iastore, .int v :: .int i :: .ref a :: r => zif (ztyp S a = 100 ∧ vp_in i (zlen S a)) nx L r (sA S a i.toNatClampNeg v)
  | .bastore, .int v :: .int i :: .ref a :: r => zif (((ztyp S a = 101 ∧ v.toInt8.toInt32 = v) ∨ (ztyp S a = 102 ∧ (v = 0 ∨ v = 1))) ∧ vp_in i (zlen S a)) nx L r (sA S a i.toNatClampNeg v)
  | .lastore, .long v :: .int i :: .ref a :: r => zif (ztyp S a = 103 ∧ vp_in i (zlen S a)) nx L r (sL S a i.toNatClampNeg v)
  | .aastore, .ref v :: .int i :: .ref a :: r => zif ((zput (ztyp S a) (ztyp S v) = true ∧ v < gN S) ∧ vp_in i (zlen S a)) nx L r (sQ S a i.toNatClampNeg (some v))
  | .newarray _, .int n :: r => zif ((¬ n < 0 ∧ n.toNatClampNeg ≤ 1000000) ∧ znew S e.2.2.2.2.1 n.toNatClampNeg) nx L (.ref (gN S) :: r) (sNew S e.2.2.2.2.1 n.toNatClampNeg n.toNatClampNeg)
  | .anewarray _, .int n :: r => zif ((¬ n < 0 ∧ n.toNatClampNeg ≤ 1000000) ∧ znew S e.2.2.2.2.1 n.toNatClampNeg) nx L (.ref (gN S) :: r) (sNew S e.2.2.2.2.1 n.toNatClampNeg n.toNatClampNeg)
  | _, _ => none
/-- fields -/
def zfld (e : zE) (nx : Nat) (L st : List Value) (S : zS) : zR := match e.2.1, st with
  | .getfield _, .ref a :: r => match zown e.2.2.2.2.2.2 a with
    | some true => zone nx L ((match zfk e.2.2.2.2.1 with | 4 => zrf (gP S e.2.2.2.2.1 a) | _ => .int (gI S e.2.2.2.2.1 a)) :: r) S
    | some false => none
    | none => match zfk e.2.2.2.2.1 with
      | 6 => zif (zhas (ztyp S a) e.2.2.2.2.1 = true ∧ a < gN S) nx L (.int (gI S e.2.2.2.2.1 a) :: r) S
      | 7 => zif (zhas (ztyp S a) e.2.2.2.2.1 = true ∧ a < gN S) nx L (.int (gI S e.2.2.2.2.1 a) :: r) S
      | _ => zif (zhas (ztyp S a) e.2.2.2.2.1 = true) nx L ((match zfk e.2.2.2.2.1 with | 4 => zrf (gP S e.2.2.2.2.1 a) | _ => .int (gI S e.2.2.2.2.1 a)) :: r) S
  | .putfield _, .int x :: .ref a :: r => match zown e.2.2.2.2.2.2 a with
    | some true => match zfk e.2.2.2.2.1 with
      | 0 => zone nx L r (sI S e.2.2.2.2.1 a x)
      | 1 => zif (x = 0 ∨ x = 1) nx L r (sI S e.2.2.2.2.1 a x)
      | _ => none
    | some false => none
    | none => match zfk e.2.2.2.2.1 with
      | 0 => zif (zhas (ztyp S a) e.2.2.2.2.1 = true ∧ a < gN S) nx L r (sI S e.2.2.2.2.1 a x)
      | 1 => zif ((zhas (ztyp S a) e.2.2.2.2.1 = true ∧ a < gN S) ∧ (x = 0 ∨ x = 1)) nx L r (sI S e.2.2.2.2.1 a x)
      | 2 => zif ((zhas (ztyp S a) e.2.2.2.2.1 = true ∧ a < gN S) ∧ x.toInt8.toInt32 = x) nx L r (sI S e.2.2.2.2.1 a x)
      | 3 => zif ((zhas (ztyp S a) e.2.2.2.2.1 = true ∧ a < gN S) ∧ (x.toUInt32 % 65536).toInt32 = x) nx L r (sI S e.2.2.2.2.1 a x)
      | 6 => zif (zhas (ztyp S a) e.2.2.2.2.1 = true ∧ a < gN S) nx L r (sI S e.2.2.2.2.1 a x)
      | 8 => zif ((zhas (ztyp S a) e.2.2.2.2.1 = true ∧ a < gN S) ∧ zlen S a = 1) nx L r (sI S e.2.2.2.2.1 a x)
      | 7 => zif ((zhas (ztyp S a) e.2.2.2.2.1 = true ∧ a < gN S) ∧ (x = 0 ∨ x = 1)) nx L r (sI S e.2.2.2.2.1 a x)
      | _ => none
  | .putfield _, .ref v :: .ref a :: r => match zfk e.2.2.2.2.1, zfin e.2.2.2.2.1 with
    | 4, some (i, q) => match Nat.beq a i, Nat.beq v q with
      | true, true => zone nx L r (sP S e.2.2.2.2.1 a (some v))
      | _, _ => none
    | 4, none => match zown e.2.2.2.2.2.2 a with
      | some true => zone nx L r (sP S e.2.2.2.2.1 a (some v))
      | some false => none
      | none => zif (zhas (ztyp S a) e.2.2.2.2.1 = true ∧ a < gN S) nx L r (sP S e.2.2.2.2.1 a (some v))
    | 5, _ => zif (zdr e.2.2.2.2.1 (ztyp S a) = true ∧ a < gN S ∧ gP S (zt0 (ztyp S a)) a = some v) nx L r S
    | _, _ => none
  | .putfield _, .null :: .ref a :: r => match zfk e.2.2.2.2.1, zfin e.2.2.2.2.1 with
    | 4, none => match zown e.2.2.2.2.2.2 a with
      | some true => zone nx L r (sP S e.2.2.2.2.1 a none)
      | some false => none
      | none => zif (zhas (ztyp S a) e.2.2.2.2.1 = true ∧ a < gN S) nx L r (sP S e.2.2.2.2.1 a none)
    | _, _ => none
  | .new _, st => zif (znew S e.2.2.2.2.1 0) nx L (.ref (gN S) :: st) (sNew S e.2.2.2.2.1 0 (zslots e.2.2.2.2.1))
  | .checkcast _, .ref a :: r => match e.2.2.2.2.1 with
    | 29 => zif (ztyp S a = 101) nx L (.ref a :: r) S
    | _ => zif (ztyp S a = e.2.2.2.2.1) nx L (.ref a :: r) S
  | .instanceof _, .ref a :: r => zif (zinst (ztyp S a) e.2.2.2.2.1 = true) nx L (.int (if ztyp S a = e.2.2.2.2.1 then 1 else 0) :: r) S
  | .invokespecial _, st => match e.2.2.2.2.2.2, st with
    | (_, 9000) :: _, .ref _ :: r => match decide (zsum r ≤ 8) with
      | true => zone nx L r S
      | false => none
    | (_, 9001) :: _, .ref a :: r => match r with
      | [] => zif (ztyp S a = 8 ∧ a < gN S ∧ zlen S a = 0) nx L r (sT S a 8 1)
      | _ => none
    | _, _ => none
  | .invokestatic _, st => match e.2.2.2.2.2.2, st with
    | (_, 9003) :: _, .int n :: .int dp :: .ref d :: .int sp :: .ref s :: r => match decide (zsum r ≤ 8) with
      | true => zif (((ztyp S s = 101 ∨ ztyp S s = 121) ∧ ztyp S d = 101 ∧ s ≠ d) ∧ zcopyOK S s d sp dp n) nx L r (zcopy S s d sp.toNatClampNeg dp.toNatClampNeg n.toNatClampNeg)
      | false => none
    | (_, 9004) :: _, .int y :: .int x :: r => match decide (zsum r ≤ 8) with
      | true => zone nx L (.int (if x < y then y else x) :: r) S
      | false => none
    | (_, 9006) :: _, .int y :: .int x :: r => match decide (zsum r ≤ 8) with
      | true => zone nx L (.int (if y < x then y else x) :: r) S
      | false => none
    | (_, 9005) :: _, .long x :: r => match decide (zsum r ≤ 8) with
      | true => zone nx L (.long (if 0 < x then x else -x) :: r) S
      | false => none
    | _, _ => none
  | _, _ => none
def zcop (e : zE) (L st : List Value) (S : zS) : zR := match e.2.1 with
  | .iload _ | .iload_n _ | .lload _ | .lload_n _ | .aload _ | .aload_n _ => zld e (e.1 + e.2.2.1) L st S
  | .istore _ | .istore_n _ | .lstore _ | .lstore_n _ | .astore _ | .astore_n _ => zstr e (e.1 + e.2.2.1) L st S
  | .iadd | .isub | .imul | .iand | .ior | .ixor | .ishl | .ishr | .iushr | .idiv | .irem | .ineg | .i2l | .i2b | .i2c | .iinc _ _ => zint e (e.1 + e.2.2.1) L st S
  | .ladd | .lsub | .lmul | .land | .lor | .lneg | .lshl | .lshr | .lcmp | .l2i => zlng e (e.1 + e.2.2.1) L st S
  | .aconst_null | .iconst _ | .bipush _ | .sipush _ | .lconst _ | .ldc _ | .ldc_w _ | .ldc2_w _ | .getstatic _ | .goto _ | .dup | .pop | .dup_x1 | .dup2 => zstk e (e.1 + e.2.2.1) L st S
  | .arraylength | .iaload | .baload | .laload | .aaload | .iastore | .bastore | .lastore | .aastore | .newarray _ | .anewarray _ => zarr e (e.1 + e.2.2.1) L st S
  | .getfield _ | .putfield _ | .new _ | .checkcast _ | .instanceof _ | .invokespecial _ | .invokestatic _ => zfld e (e.1 + e.2.2.1) L st S
  | .multianewarray _ _ => zmul e (e.1 + e.2.2.1) L st S
  | .if_acmp .ne _ => zacm e (e.1 + e.2.2.1) L st S
  | .invokevirtual _ => zcln e (e.1 + e.2.2.1) L st S
  | _ => none
/-- branches: condition, stack behind -/
def zbop (e : zE) (st : List Value) : Option (Prop × List Value) := match e.2.1, st with
  | .ifCond .eq _, .int x :: r => some (x = 0, r)
  | .ifCond .ne _, .int x :: r => some (¬ x = 0, r)
  | .ifCond .lt _, .int x :: r => some (x < 0, r)
  | .ifCond .ge _, .int x :: r => some (0 ≤ x, r)
  | .ifCond .gt _, .int x :: r => some (0 < x, r)
  | .ifCond .le _, .int x :: r => some (x ≤ 0, r)
  | .if_icmp .eq _, .int y :: .int x :: r => some (x = y, r)
  | .if_icmp .ne _, .int y :: .int x :: r => some (¬ x = y, r)
  | .if_icmp .lt _, .int y :: .int x :: r => some (x < y, r)
  | .if_icmp .ge _, .int y :: .int x :: r => some (y ≤ x, r)
  | .if_icmp .gt _, .int y :: .int x :: r => some (y < x, r)
  | .if_icmp .le _, .int y :: .int x :: r => some (x ≤ y, r)
  | _, _ => none
/-- null tests: known by the value's form -/
def znop (e : zE) (st : List Value) : Option (Bool × List Value) := match e.2.1, st with
  | .ifnull _, .null :: r => some (true, r)
  | .ifnull _, .ref _ :: r => some (false, r)
  | .ifnonnull _, .null :: r => some (false, r)
  | .ifnonnull _, .ref _ :: r => some (true, r)
  | _, _ => none
def zpick : List (Int32 × Nat) → Int32 → Nat → Nat
  | [], _, df => df
  | (c, t) :: l, k, df => if k = c then t else zpick l k df
def zsop (e : zE) (st : List Value) : Option (Int32 × List Value) := match e.2.1, st with
  | .tableswitch _ _ _ _, .int k :: r => some (k, r)
  | .lookupswitch _ _, .int k :: r => some (k, r)
  | _, _ => none
/-- n values off the stack, the lowest first -/
def ztake : Nat → List Value → List Value → Option (List Value × List Value)
  | 0, acc, st => some (acc, st)
  | _ + 1, _, [] => none
  | n + 1, acc, v :: st => ztake n (v :: acc) st
def zvt : List (Nat × Nat) → Nat → Option Nat
  | [], _ => none
  | (c, t) :: l, k => if k = c then some t else zvt l k
/-- a call: kind (0: its target is known; 1: by the receiver's class), arguments, stack behind -/
def zcall (e : zE) (st : List Value) : Option (List Value × List Value) := match e.2.1 with
  | .invokestatic _ => match ztake e.2.2.2.2.1 [] st with
    | some (as, r) => match decide (zsum r ≤ 8) with
      | true => some (as, r)
      | false => none
    | none => none
  | .invokespecial _ => match ztake (e.2.2.2.2.1 + 1) [] st with
    | some (.ref a :: as, r) => match decide (zsum r ≤ 8) with
      | true => some (.ref a :: as, r)
      | false => none
    | _ => none
  | .invokevirtual _ => match ztake (e.2.2.2.2.1 + 1) [] st with
    | some (.ref a :: as, r) => match decide (zsum r ≤ 8) with
      | true => some (.ref a :: as, r)
      | false => none
    | _ => none
  | _ => none
/-- the target: static, special: the first row; virtual: by the class (a row whose class is 1000 + id asks for that very object) -/
def ztgt (e : zE) (as : List Value) (S : zS) : Option Nat := match e.2.1, as with
  | .invokevirtual _, .ref a :: _ => match e.2.2.2.2.2.2 with
    | (c, t) :: [] => if 1000 ≤ c then (if a = c - 1000 then some t else none) else zvt [(c, t)] (ztyp S a)
    | l => zvt l (ztyp S a)
  | .invokespecial _, .ref a :: _ => match e.2.2.2.2.2.2 with
    | (0, t) :: _ => some t
    | (c, t) :: _ => if ztyp S a = c then some t else none
    | [] => none
  | _, _ => match e.2.2.2.2.2.2 with
    | (_, t) :: _ => some t
    | [] => none
def zret (e : zE) (st : List Value) : Option (Option Value) := match e.2.1, st with
  | .return_, [] => some none
  | .ireturn, .int v :: [] => some (some (.int v))
  | .lreturn, .long v :: [] => some (some (.long v))
  | .areturn, .ref v :: [] => some (some (.ref v))
  | .areturn, .null :: [] => some (some .null)
  | _, _ => none
/-- what a returned value must be: a boolean nought or one, a byte or a char within its bounds -/
def zrg (k : Nat) (v : Option Value) : Option Prop := match v with
  | some (.int x) => match k with
    | 2 => some (x = 0 ∨ x = 1)
    | 3 => some (x.toInt8.toInt32 = x)
    | 4 => some ((x.toUInt32 % 65536).toInt32 = x)
    | _ => none
  | _ => none
def zthr (e : zE) (st : List Value) : Option Nat := match e.2.1, st with
  | .athrow, .ref v :: _ => some v
  | _, _ => none
