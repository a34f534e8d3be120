/-! soundness: the word of each method's code, printed by wip/gen/gen_code.py -/
set_option maxRecDepth 100000
def hhT (y : Nat) : List (Nat × Nat × Nat × Nat) := match y with
  | 22 => [(24, 59, 74, 263), (60, 73, 74, 263), (24, 59, 82, 268), (60, 73, 82, 268), (24, 59, 90, 234), (60, 73, 90, 234)]
  | 52 => [(24, 49, 50, 263), (24, 49, 58, 268), (24, 49, 66, 394)]
  | 54 => [(3, 29, 32, 234)]
  | 70 => [(0, 10, 11, 522)]
  | 126 => [(29, 42, 43, 263), (29, 42, 50, 268)]
  | 128 => [(27, 64, 65, 263), (27, 64, 72, 268)]
  | 130 => [(27, 64, 65, 263), (27, 64, 72, 268)]
  | 133 => [(30, 45, 46, 394)]
  | 136 => [(14, 29, 30, 268), (14, 29, 38, 234)]
  | 138 => [(23, 40, 41, 263), (23, 40, 49, 268), (23, 40, 57, 234)]
  | 140 => [(21, 49, 50, 268), (21, 49, 58, 728), (21, 49, 66, 730)]
  | _ => []
def CWd (y : Nat) : Prop := (Cond.code (mnm y) (mcode y) (mmax y) (mrt y) ∈ lw_all ∧ hhT y = []) ∨ Cond.codeWith (mnm y) (mcode y) (mmax y) (mrt y) (hhT y) ∈ lw_all
theorem cw1 : CWd 1 := Or.inl ⟨q167, rfl⟩
theorem cw2 : CWd 2 := Or.inl ⟨q209, rfl⟩
theorem cw3 : CWd 3 := Or.inl ⟨q393, rfl⟩
theorem cw4 : CWd 4 := Or.inl ⟨q397, rfl⟩
theorem cw5 : CWd 5 := Or.inl ⟨q411, rfl⟩
theorem cw6 : CWd 6 := Or.inl ⟨q415, rfl⟩
theorem cw7 : CWd 7 := Or.inl ⟨q419, rfl⟩
theorem cw8 : CWd 8 := Or.inl ⟨q423, rfl⟩
theorem cw9 : CWd 9 := Or.inl ⟨q426, rfl⟩
theorem cw10 : CWd 10 := Or.inl ⟨q430, rfl⟩
theorem cw11 : CWd 11 := Or.inl ⟨q434, rfl⟩
theorem cw12 : CWd 12 := Or.inl ⟨q482, rfl⟩
theorem cw13 : CWd 13 := Or.inl ⟨q488, rfl⟩
theorem cw14 : CWd 14 := Or.inl ⟨q492, rfl⟩
theorem cw15 : CWd 15 := Or.inl ⟨q495, rfl⟩
theorem cw16 : CWd 16 := Or.inl ⟨q500, rfl⟩
theorem cw17 : CWd 17 := Or.inl ⟨q504, rfl⟩
theorem cw18 : CWd 18 := Or.inl ⟨q523, rfl⟩
theorem cw19 : CWd 19 := Or.inl ⟨q527, rfl⟩
theorem cw20 : CWd 20 := Or.inl ⟨q531, rfl⟩
theorem cw21 : CWd 21 := Or.inl ⟨q535, rfl⟩
theorem cw22 : CWd 22 := Or.inr q547
theorem cw23 : CWd 23 := Or.inl ⟨q681, rfl⟩
theorem cw24 : CWd 24 := Or.inl ⟨q685, rfl⟩
theorem cw25 : CWd 25 := Or.inl ⟨q688, rfl⟩
theorem cw26 : CWd 26 := Or.inl ⟨q696, rfl⟩
theorem cw27 : CWd 27 := Or.inl ⟨q699, rfl⟩
theorem cw28 : CWd 28 := Or.inl ⟨q709, rfl⟩
theorem cw29 : CWd 29 := Or.inl ⟨q719, rfl⟩
theorem cw30 : CWd 30 := Or.inl ⟨q723, rfl⟩
theorem cw31 : CWd 31 := Or.inl ⟨q795, rfl⟩
theorem cw32 : CWd 32 := Or.inl ⟨q870, rfl⟩
theorem cw33 : CWd 33 := Or.inl ⟨q874, rfl⟩
theorem cw34 : CWd 34 := Or.inl ⟨q877, rfl⟩
theorem cw35 : CWd 35 := Or.inl ⟨q882, rfl⟩
theorem cw36 : CWd 36 := Or.inl ⟨q897, rfl⟩
theorem cw37 : CWd 37 := Or.inl ⟨q901, rfl⟩
theorem cw38 : CWd 38 := Or.inl ⟨q905, rfl⟩
theorem cw39 : CWd 39 := Or.inl ⟨q909, rfl⟩
theorem cw40 : CWd 40 := Or.inl ⟨q912, rfl⟩
theorem cw41 : CWd 41 := Or.inl ⟨q915, rfl⟩
theorem cw42 : CWd 42 := Or.inl ⟨q919, rfl⟩
theorem cw43 : CWd 43 := Or.inl ⟨q932, rfl⟩
theorem cw44 : CWd 44 := Or.inl ⟨q936, rfl⟩
theorem cw45 : CWd 45 := Or.inl ⟨q940, rfl⟩
theorem cw46 : CWd 46 := Or.inl ⟨q945, rfl⟩
theorem cw47 : CWd 47 := Or.inl ⟨q950, rfl⟩
theorem cw48 : CWd 48 := Or.inl ⟨q953, rfl⟩
theorem cw49 : CWd 49 := Or.inl ⟨q956, rfl⟩
theorem cw50 : CWd 50 := Or.inl ⟨q961, rfl⟩
theorem cw51 : CWd 51 := Or.inl ⟨q965, rfl⟩
theorem cw52 : CWd 52 := Or.inr q1153
theorem cw53 : CWd 53 := Or.inl ⟨q1170, rfl⟩
theorem cw54 : CWd 54 := Or.inr q1175
theorem cw55 : CWd 55 := Or.inl ⟨q1179, rfl⟩
theorem cw56 : CWd 56 := Or.inl ⟨q1184, rfl⟩
theorem cw57 : CWd 57 := Or.inl ⟨q1188, rfl⟩
theorem cw58 : CWd 58 := Or.inl ⟨q1192, rfl⟩
theorem cw59 : CWd 59 := Or.inl ⟨q1222, rfl⟩
theorem cw60 : CWd 60 := Or.inl ⟨q1226, rfl⟩
theorem cw61 : CWd 61 := Or.inl ⟨q1230, rfl⟩
theorem cw62 : CWd 62 := Or.inl ⟨q1234, rfl⟩
theorem cw63 : CWd 63 := Or.inl ⟨q1238, rfl⟩
theorem cw64 : CWd 64 := Or.inl ⟨q1242, rfl⟩
theorem cw65 : CWd 65 := Or.inl ⟨q1246, rfl⟩
theorem cw66 : CWd 66 := Or.inl ⟨q1250, rfl⟩
theorem cw67 : CWd 67 := Or.inl ⟨q1254, rfl⟩
theorem cw68 : CWd 68 := Or.inl ⟨q1258, rfl⟩
theorem cw69 : CWd 69 := Or.inl ⟨q1262, rfl⟩
theorem cw70 : CWd 70 := Or.inr q1266
theorem cw71 : CWd 71 := Or.inl ⟨q1271, rfl⟩
theorem cw72 : CWd 72 := Or.inl ⟨q1301, rfl⟩
theorem cw73 : CWd 73 := Or.inl ⟨q1305, rfl⟩
theorem cw74 : CWd 74 := Or.inl ⟨q1310, rfl⟩
theorem cw75 : CWd 75 := Or.inl ⟨q1314, rfl⟩
theorem cw76 : CWd 76 := Or.inl ⟨q1318, rfl⟩
theorem cw77 : CWd 77 := Or.inl ⟨q1341, rfl⟩
theorem cw78 : CWd 78 := Or.inl ⟨q1345, rfl⟩
theorem cw79 : CWd 79 := Or.inl ⟨q1349, rfl⟩
theorem cw80 : CWd 80 := Or.inl ⟨q1353, rfl⟩
theorem cw81 : CWd 81 := Or.inl ⟨q1357, rfl⟩
theorem cw82 : CWd 82 := Or.inl ⟨q1361, rfl⟩
theorem cw83 : CWd 83 := Or.inl ⟨q1365, rfl⟩
theorem cw84 : CWd 84 := Or.inl ⟨q1368, rfl⟩
theorem cw85 : CWd 85 := Or.inl ⟨q1373, rfl⟩
theorem cw86 : CWd 86 := Or.inl ⟨q1377, rfl⟩
theorem cw87 : CWd 87 := Or.inl ⟨q1381, rfl⟩
theorem cw88 : CWd 88 := Or.inl ⟨q1385, rfl⟩
theorem cw89 : CWd 89 := Or.inl ⟨q1389, rfl⟩
theorem cw90 : CWd 90 := Or.inl ⟨q1393, rfl⟩
theorem cw91 : CWd 91 := Or.inl ⟨q1397, rfl⟩
theorem cw92 : CWd 92 := Or.inl ⟨q1401, rfl⟩
theorem cw93 : CWd 93 := Or.inl ⟨q1405, rfl⟩
theorem cw94 : CWd 94 := Or.inl ⟨q1409, rfl⟩
theorem cw95 : CWd 95 := Or.inl ⟨q1413, rfl⟩
theorem cw96 : CWd 96 := Or.inl ⟨q1417, rfl⟩
theorem cw97 : CWd 97 := Or.inl ⟨q1422, rfl⟩
theorem cw98 : CWd 98 := Or.inl ⟨q1426, rfl⟩
theorem cw99 : CWd 99 := Or.inl ⟨q1430, rfl⟩
theorem cw100 : CWd 100 := Or.inl ⟨q1433, rfl⟩
theorem cw101 : CWd 101 := Or.inl ⟨q1436, rfl⟩
theorem cw102 : CWd 102 := Or.inl ⟨q1440, rfl⟩
theorem cw103 : CWd 103 := Or.inl ⟨q1444, rfl⟩
theorem cw104 : CWd 104 := Or.inl ⟨q1448, rfl⟩
theorem cw105 : CWd 105 := Or.inl ⟨q1452, rfl⟩
theorem cw106 : CWd 106 := Or.inl ⟨q1456, rfl⟩
theorem cw107 : CWd 107 := Or.inl ⟨q1460, rfl⟩
theorem cw108 : CWd 108 := Or.inl ⟨q1464, rfl⟩
theorem cw109 : CWd 109 := Or.inl ⟨q1468, rfl⟩
theorem cw110 : CWd 110 := Or.inl ⟨q1472, rfl⟩
theorem cw111 : CWd 111 := Or.inl ⟨q1477, rfl⟩
theorem cw112 : CWd 112 := Or.inl ⟨q1480, rfl⟩
theorem cw113 : CWd 113 := Or.inl ⟨q1484, rfl⟩
theorem cw114 : CWd 114 := Or.inl ⟨q1488, rfl⟩
theorem cw115 : CWd 115 := Or.inl ⟨q1492, rfl⟩
theorem cw116 : CWd 116 := Or.inl ⟨q1496, rfl⟩
theorem cw117 : CWd 117 := Or.inl ⟨q1500, rfl⟩
theorem cw118 : CWd 118 := Or.inl ⟨q1504, rfl⟩
theorem cw119 : CWd 119 := Or.inl ⟨q1517, rfl⟩
theorem cw120 : CWd 120 := Or.inl ⟨q1521, rfl⟩
theorem cw121 : CWd 121 := Or.inl ⟨q1524, rfl⟩
theorem cw122 : CWd 122 := Or.inl ⟨q1602, rfl⟩
theorem cw123 : CWd 123 := Or.inl ⟨q1606, rfl⟩
theorem cw124 : CWd 124 := Or.inl ⟨q1609, rfl⟩
theorem cw125 : CWd 125 := Or.inl ⟨q1613, rfl⟩
theorem cw126 : CWd 126 := Or.inr q1617
theorem cw127 : CWd 127 := Or.inl ⟨q1620, rfl⟩
theorem cw128 : CWd 128 := Or.inr q1624
theorem cw129 : CWd 129 := Or.inl ⟨q1635, rfl⟩
theorem cw130 : CWd 130 := Or.inr q1705
theorem cw131 : CWd 131 := Or.inl ⟨q1708, rfl⟩
theorem cw132 : CWd 132 := Or.inl ⟨q1745, rfl⟩
theorem cw133 : CWd 133 := Or.inr q1797
theorem cw134 : CWd 134 := Or.inl ⟨q1800, rfl⟩
theorem cw135 : CWd 135 := Or.inl ⟨q1805, rfl⟩
theorem cw136 : CWd 136 := Or.inr q1809
theorem cw137 : CWd 137 := Or.inl ⟨q1812, rfl⟩
theorem cw138 : CWd 138 := Or.inr q1816
theorem cw139 : CWd 139 := Or.inl ⟨q1820, rfl⟩
theorem cw140 : CWd 140 := Or.inr q1824
theorem cw141 : CWd 141 := Or.inl ⟨q1843, rfl⟩
theorem cw142 : CWd 142 := Or.inl ⟨q1847, rfl⟩
theorem cw143 : CWd 143 := Or.inl ⟨q1851, rfl⟩
theorem cw144 : CWd 144 := Or.inl ⟨q1855, rfl⟩
theorem cw145 : CWd 145 := Or.inl ⟨q1860, rfl⟩
theorem cw146 : CWd 146 := Or.inl ⟨q2115, rfl⟩
theorem cw147 : CWd 147 := Or.inl ⟨q2119, rfl⟩
theorem cw148 : CWd 148 := Or.inl ⟨q2123, rfl⟩
theorem cw149 : CWd 149 := Or.inl ⟨q2127, rfl⟩
theorem cw150 : CWd 150 := Or.inl ⟨q2131, rfl⟩
theorem cw151 : CWd 151 := Or.inl ⟨q2135, rfl⟩
theorem cw152 : CWd 152 := Or.inl ⟨q2140, rfl⟩
theorem cw153 : CWd 153 := Or.inl ⟨q2144, rfl⟩
theorem cw154 : CWd 154 := Or.inl ⟨q2147, rfl⟩
theorem cw155 : CWd 155 := Or.inl ⟨q2152, rfl⟩
theorem cw156 : CWd 156 := Or.inl ⟨q2156, rfl⟩
theorem cw157 : CWd 157 := Or.inl ⟨q2159, rfl⟩
theorem cw158 : CWd 158 := Or.inl ⟨q2163, rfl⟩
theorem cw159 : CWd 159 := Or.inl ⟨q2167, rfl⟩
theorem cw160 : CWd 160 := Or.inl ⟨q2171, rfl⟩
theorem cw161 : CWd 161 := Or.inl ⟨q2176, rfl⟩
theorem cw162 : CWd 162 := Or.inl ⟨q2180, rfl⟩
theorem cw163 : CWd 163 := Or.inl ⟨q2184, rfl⟩
theorem cw164 : CWd 164 := Or.inl ⟨q2189, rfl⟩
theorem cw165 : CWd 165 := Or.inl ⟨q2192, rfl⟩
theorem cw166 : CWd 166 := Or.inl ⟨q2196, rfl⟩
theorem cw167 : CWd 167 := Or.inl ⟨q2200, rfl⟩
theorem cw168 : CWd 168 := Or.inl ⟨q2204, rfl⟩
theorem cw169 : CWd 169 := Or.inl ⟨q2208, rfl⟩
theorem cw170 : CWd 170 := Or.inl ⟨q2212, rfl⟩
theorem cw171 : CWd 171 := Or.inl ⟨q2216, rfl⟩
theorem cw172 : CWd 172 := Or.inl ⟨q2220, rfl⟩
theorem cw173 : CWd 173 := Or.inl ⟨q2223, rfl⟩
theorem cw174 : CWd 174 := Or.inl ⟨q2227, rfl⟩
theorem cw175 : CWd 175 := Or.inl ⟨q2230, rfl⟩
theorem cw176 : CWd 176 := Or.inl ⟨q2233, rfl⟩
theorem cw177 : CWd 177 := Or.inl ⟨q2237, rfl⟩
theorem cw178 : CWd 178 := Or.inl ⟨q2240, rfl⟩
theorem cw179 : CWd 179 := Or.inl ⟨q2243, rfl⟩
theorem cw180 : CWd 180 := Or.inl ⟨q2246, rfl⟩
theorem cw181 : CWd 181 := Or.inl ⟨q2250, rfl⟩
theorem cw182 : CWd 182 := Or.inl ⟨q2254, rfl⟩
theorem cw183 : CWd 183 := Or.inl ⟨q2258, rfl⟩
theorem cw184 : CWd 184 := Or.inl ⟨q2262, rfl⟩
theorem cw185 : CWd 185 := Or.inl ⟨q2267, rfl⟩
theorem cw186 : CWd 186 := Or.inl ⟨q2270, rfl⟩
theorem cw187 : CWd 187 := Or.inl ⟨q2275, rfl⟩
theorem cw188 : CWd 188 := Or.inl ⟨q2279, rfl⟩
theorem cw189 : CWd 189 := Or.inl ⟨q2285, rfl⟩
theorem cw190 : CWd 190 := Or.inl ⟨q2289, rfl⟩
theorem cw191 : CWd 191 := Or.inl ⟨q2293, rfl⟩
theorem cw192 : CWd 192 := Or.inl ⟨q2297, rfl⟩
theorem cw193 : CWd 193 := Or.inl ⟨q2301, rfl⟩
theorem cw194 : CWd 194 := Or.inl ⟨q2305, rfl⟩
theorem cw195 : CWd 195 := Or.inl ⟨q2309, rfl⟩
theorem cw196 : CWd 196 := Or.inl ⟨q2313, rfl⟩
theorem cw197 : CWd 197 := Or.inl ⟨q2317, rfl⟩
theorem cw198 : CWd 198 := Or.inl ⟨q2321, rfl⟩
theorem cw199 : CWd 199 := Or.inl ⟨q2325, rfl⟩
theorem cw200 : CWd 200 := Or.inl ⟨q2329, rfl⟩
theorem cw201 : CWd 201 := Or.inl ⟨q2333, rfl⟩
theorem cw202 : CWd 202 := Or.inl ⟨q2339, rfl⟩
theorem cw203 : CWd 203 := Or.inl ⟨q2343, rfl⟩
theorem cw204 : CWd 204 := Or.inl ⟨q2347, rfl⟩
theorem cw205 : CWd 205 := Or.inl ⟨q2351, rfl⟩
theorem cw206 : CWd 206 := Or.inl ⟨q2355, rfl⟩
theorem cw207 : CWd 207 := Or.inl ⟨q2359, rfl⟩
theorem cw208 : CWd 208 := Or.inl ⟨q2363, rfl⟩
theorem cw209 : CWd 209 := Or.inl ⟨q2367, rfl⟩
theorem cw210 : CWd 210 := Or.inl ⟨q2371, rfl⟩
theorem cw211 : CWd 211 := Or.inl ⟨q2375, rfl⟩
theorem cw212 : CWd 212 := Or.inl ⟨q2379, rfl⟩
theorem cw213 : CWd 213 := Or.inl ⟨q2382, rfl⟩
theorem cw214 : CWd 214 := Or.inl ⟨q2386, rfl⟩
theorem cw215 : CWd 215 := Or.inl ⟨q2390, rfl⟩
theorem cw216 : CWd 216 := Or.inl ⟨q2394, rfl⟩
theorem cw217 : CWd 217 := Or.inl ⟨q2398, rfl⟩
theorem cw218 : CWd 218 := Or.inl ⟨q2402, rfl⟩
theorem cw219 : CWd 219 := Or.inl ⟨q2406, rfl⟩
theorem cw220 : CWd 220 := Or.inl ⟨q2410, rfl⟩
theorem cw221 : CWd 221 := Or.inl ⟨q2414, rfl⟩
theorem cw222 : CWd 222 := Or.inl ⟨q2418, rfl⟩
theorem cw223 : CWd 223 := Or.inl ⟨q2422, rfl⟩
theorem cw224 : CWd 224 := Or.inl ⟨q2426, rfl⟩
theorem cw225 : CWd 225 := Or.inl ⟨q2430, rfl⟩
theorem cw226 : CWd 226 := Or.inl ⟨q2434, rfl⟩
theorem cw227 : CWd 227 := Or.inl ⟨q2438, rfl⟩
theorem cw228 : CWd 228 := Or.inl ⟨q2442, rfl⟩
theorem cw229 : CWd 229 := Or.inl ⟨q2446, rfl⟩
theorem cw230 : CWd 230 := Or.inl ⟨q2450, rfl⟩
theorem cw231 : CWd 231 := Or.inl ⟨q2454, rfl⟩
theorem cw232 : CWd 232 := Or.inl ⟨q2458, rfl⟩
theorem cw233 : CWd 233 := Or.inl ⟨q2462, rfl⟩
theorem cw234 : CWd 234 := Or.inl ⟨q2466, rfl⟩
theorem cw235 : CWd 235 := Or.inl ⟨q2470, rfl⟩
theorem cw236 : CWd 236 := Or.inl ⟨q2474, rfl⟩
theorem cw237 : CWd 237 := Or.inl ⟨q2478, rfl⟩
theorem cw238 : CWd 238 := Or.inl ⟨q2482, rfl⟩
theorem cw239 : CWd 239 := Or.inl ⟨q2486, rfl⟩
theorem cw240 : CWd 240 := Or.inl ⟨q2489, rfl⟩
theorem cw241 : CWd 241 := Or.inl ⟨q2494, rfl⟩
theorem cw242 : CWd 242 := Or.inl ⟨q2498, rfl⟩
theorem cw243 : CWd 243 := Or.inl ⟨q2502, rfl⟩
theorem cw244 : CWd 244 := Or.inl ⟨q2506, rfl⟩
theorem cw245 : CWd 245 := Or.inl ⟨q2510, rfl⟩
theorem cw246 : CWd 246 := Or.inl ⟨q2514, rfl⟩
theorem cw247 : CWd 247 := Or.inl ⟨q2518, rfl⟩
theorem cw248 : CWd 248 := Or.inl ⟨q2522, rfl⟩
theorem cw249 : CWd 249 := Or.inl ⟨q2526, rfl⟩
theorem cw250 : CWd 250 := Or.inl ⟨q2529, rfl⟩
theorem cw251 : CWd 251 := Or.inl ⟨q2533, rfl⟩
theorem cw252 : CWd 252 := Or.inl ⟨q2537, rfl⟩
theorem cw253 : CWd 253 := Or.inl ⟨q2540, rfl⟩
theorem cw254 : CWd 254 := Or.inl ⟨q2544, rfl⟩
theorem cw255 : CWd 255 := Or.inl ⟨q2548, rfl⟩
theorem cw256 : CWd 256 := Or.inl ⟨q2552, rfl⟩
theorem cw257 : CWd 257 := Or.inl ⟨q2556, rfl⟩
theorem cw258 : CWd 258 := Or.inl ⟨q2560, rfl⟩
theorem cw259 : CWd 259 := Or.inl ⟨q2564, rfl⟩
theorem cw260 : CWd 260 := Or.inl ⟨q2568, rfl⟩
theorem cw261 : CWd 261 := Or.inl ⟨q2572, rfl⟩
theorem cw262 : CWd 262 := Or.inl ⟨q2576, rfl⟩
theorem cw263 : CWd 263 := Or.inl ⟨q2580, rfl⟩
theorem cw264 : CWd 264 := Or.inl ⟨q2584, rfl⟩
theorem cw265 : CWd 265 := Or.inl ⟨q2588, rfl⟩
theorem cw266 : CWd 266 := Or.inl ⟨q2592, rfl⟩
theorem cw267 : CWd 267 := Or.inl ⟨q2596, rfl⟩
theorem cw268 : CWd 268 := Or.inl ⟨q2600, rfl⟩
theorem cw269 : CWd 269 := Or.inl ⟨q2604, rfl⟩
theorem cw270 : CWd 270 := Or.inl ⟨q2608, rfl⟩
theorem cw271 : CWd 271 := Or.inl ⟨q2612, rfl⟩
theorem cw272 : CWd 272 := Or.inl ⟨q2616, rfl⟩
theorem cw273 : CWd 273 := Or.inl ⟨q2620, rfl⟩
theorem cw274 : CWd 274 := Or.inl ⟨q2624, rfl⟩
theorem cw275 : CWd 275 := Or.inl ⟨q2628, rfl⟩
theorem cw276 : CWd 276 := Or.inl ⟨q215, rfl⟩
theorem cw277 : CWd 277 := Or.inl ⟨q472, rfl⟩
theorem cw278 : CWd 278 := Or.inl ⟨q484, rfl⟩
theorem cw279 : CWd 279 := Or.inl ⟨q728, rfl⟩
theorem cw280 : CWd 280 := Or.inl ⟨q893, rfl⟩
theorem cw281 : CWd 281 := Or.inl ⟨q1513, rfl⟩
theorem cw282 : CWd 282 := Or.inl ⟨q1647, rfl⟩
theorem cw283 : CWd 283 := Or.inl ⟨q1649, rfl⟩
theorem cw284 : CWd 284 := Or.inl ⟨q1726, rfl⟩
theorem cw285 : CWd 285 := Or.inl ⟨q470, rfl⟩
theorem cw286 : CWd 286 := Or.inl ⟨q479, rfl⟩
theorem cw287 : CWd 287 := Or.inl ⟨q759, rfl⟩
theorem cw288 : CWd 288 := Or.inl ⟨q889, rfl⟩
theorem cw289 : CWd 289 := Or.inl ⟨q1631, rfl⟩
theorem cw290 : CWd 290 := Or.inl ⟨q778, rfl⟩
theorem cw291 : CWd 291 := Or.inl ⟨q892, rfl⟩
theorem cw292 : CWd 292 := Or.inl ⟨q1512, rfl⟩
theorem cw293 : CWd 293 := Or.inl ⟨q1639, rfl⟩
theorem cw294 : CWd 294 := Or.inl ⟨q1737, rfl⟩
theorem cw295 : CWd 295 := Or.inl ⟨q543, rfl⟩
theorem cw296 : CWd 296 := Or.inl ⟨q928, rfl⟩
theorem cw297 : CWd 297 := Or.inl ⟨q973, rfl⟩
theorem cw298 : CWd 298 := Or.inl ⟨q1121, rfl⟩
theorem cw299 : CWd 299 := Or.inl ⟨q1207, rfl⟩
theorem cw300 : CWd 300 := Or.inl ⟨q1218, rfl⟩
theorem cw301 : CWd 301 := Or.inl ⟨q1327, rfl⟩
theorem cw302 : CWd 302 := Or.inl ⟨q1336, rfl⟩
theorem cw303 : CWd 303 := Or.inl ⟨q1682, rfl⟩
theorem cw304 : CWd 304 := Or.inl ⟨q1700, rfl⟩
theorem cw305 : CWd 305 := Or.inl ⟨q1769, rfl⟩
theorem cw306 : CWd 306 := Or.inl ⟨q970, rfl⟩
theorem cw307 : CWd 307 := Or.inl ⟨q1132, rfl⟩
theorem cw308 : CWd 308 := Or.inl ⟨q1198, rfl⟩
theorem cw309 : CWd 309 := Or.inl ⟨q1213, rfl⟩
theorem cw310 : CWd 310 := Or.inl ⟨q1664, rfl⟩
theorem cw311 : CWd 311 := Or.inl ⟨q1672, rfl⟩
theorem cw312 : CWd 312 := Or.inl ⟨q1028, rfl⟩
theorem cw313 : CWd 313 := Or.inl ⟨q1660, rfl⟩
theorem cw314 : CWd 314 := Or.inl ⟨q1755, rfl⟩
theorem cw315 : CWd 315 := Or.inl ⟨q1049, rfl⟩
theorem cw316 : CWd 316 := Or.inl ⟨q1127, rfl⟩
theorem cw317 : CWd 317 := Or.inl ⟨q1656, rfl⟩
theorem cw318 : CWd 318 := Or.inl ⟨q1071, rfl⟩
theorem cw319 : CWd 319 := Or.inl ⟨q1139, rfl⟩
theorem cw320 : CWd 320 := Or.inl ⟨q1203, rfl⟩
theorem cw321 : CWd 321 := Or.inl ⟨q515, rfl⟩
theorem cw322 : CWd 322 := Or.inl ⟨q519, rfl⟩
theorem cw323 : CWd 323 := Or.inl ⟨q1092, rfl⟩
theorem cw324 : CWd 324 := Or.inl ⟨q1147, rfl⟩
theorem cw325 : CWd 325 := Or.inl ⟨q1206, rfl⟩
theorem cw326 : CWd 326 := Or.inl ⟨q1694, rfl⟩
theorem cw327 : CWd 327 := Or.inl ⟨q1788, rfl⟩
theorem cw328 : CWd 328 := Or.inl ⟨q1528, rfl⟩
theorem cw329 : CWd 329 := Or.inl ⟨q1717, rfl⟩
theorem cw330 : CWd 330 := Or.inl ⟨q1760, rfl⟩
theorem cw331 : CWd 331 := Or.inl ⟨q181, rfl⟩
theorem cw332 : CWd 332 := Or.inl ⟨q178, rfl⟩
theorem cw333 : CWd 333 := Or.inl ⟨q175, rfl⟩
theorem cw334 : CWd 334 := Or.inl ⟨q407, rfl⟩
theorem cw335 : CWd 335 := Or.inl ⟨q443, rfl⟩
theorem cw336 : CWd 336 := Or.inl ⟨q452, rfl⟩
theorem cw337 : CWd 337 := Or.inl ⟨q462, rfl⟩
theorem cw338 : CWd 338 := Or.inl ⟨q804, rfl⟩
theorem cw339 : CWd 339 := Or.inl ⟨q808, rfl⟩
theorem cw340 : CWd 340 := Or.inl ⟨q812, rfl⟩
theorem cw341 : CWd 341 := Or.inl ⟨q816, rfl⟩
theorem cw342 : CWd 342 := Or.inl ⟨q1587, rfl⟩
theorem cw343 : CWd 343 := Or.inl ⟨q1597, rfl⟩
theorem cw344 : CWd 344 := Or.inl ⟨q202, rfl⟩
theorem cw345 : CWd 345 := Or.inl ⟨q829, rfl⟩
theorem cw346 : CWd 346 := Or.inl ⟨q855, rfl⟩
theorem cw347 : CWd 347 := Or.inl ⟨q455, rfl⟩
theorem cw348 : CWd 348 := Or.inl ⟨q458, rfl⟩
theorem cw349 : CWd 349 := Or.inl ⟨q538, rfl⟩
theorem cw350 : CWd 350 := Or.inl ⟨q712, rfl⟩
theorem cw351 : CWd 351 := Or.inl ⟨q541, rfl⟩
theorem cw352 : CWd 352 := Or.inl ⟨q1274, rfl⟩
theorem cw353 : CWd 353 := Or.inl ⟨q819, rfl⟩
theorem cw354 : CWd 354 := Or.inl ⟨q822, rfl⟩
theorem cw355 : CWd 355 := Or.inl ⟨q861, rfl⟩
theorem cw356 : CWd 356 := Or.inl ⟨q1144, rfl⟩
def cwL0 : List Nat := [1, 2, 3, 4, 5, 6, 7, 8, 9, 10, 11, 12, 13, 14, 15, 16, 17, 18, 19, 20, 21, 22, 23, 24, 25, 26, 27, 28, 29, 30, 31, 32, 33, 34, 35, 36, 37, 38, 39, 40, 41, 42, 43, 44, 45, 46, 47, 48, 49, 50, 51, 52, 53, 54, 55, 56, 57, 58, 59, 60]
theorem cwR0 : ∀ y ∈ cwL0, CWd y := List.forall_mem_cons.mpr ⟨cw1, List.forall_mem_cons.mpr ⟨cw2, List.forall_mem_cons.mpr ⟨cw3, List.forall_mem_cons.mpr ⟨cw4, List.forall_mem_cons.mpr ⟨cw5, List.forall_mem_cons.mpr ⟨cw6, List.forall_mem_cons.mpr ⟨cw7, List.forall_mem_cons.mpr ⟨cw8, List.forall_mem_cons.mpr ⟨cw9, List.forall_mem_cons.mpr ⟨cw10, List.forall_mem_cons.mpr ⟨cw11, List.forall_mem_cons.mpr ⟨cw12, List.forall_mem_cons.mpr ⟨cw13, List.forall_mem_cons.mpr ⟨cw14, List.forall_mem_cons.mpr ⟨cw15, List.forall_mem_cons.mpr ⟨cw16, List.forall_mem_cons.mpr ⟨cw17, List.forall_mem_cons.mpr ⟨cw18, List.forall_mem_cons.mpr ⟨cw19, List.forall_mem_cons.mpr ⟨cw20, List.forall_mem_cons.mpr ⟨cw21, List.forall_mem_cons.mpr ⟨cw22, List.forall_mem_cons.mpr ⟨cw23, List.forall_mem_cons.mpr ⟨cw24, List.forall_mem_cons.mpr ⟨cw25, List.forall_mem_cons.mpr ⟨cw26, List.forall_mem_cons.mpr ⟨cw27, List.forall_mem_cons.mpr ⟨cw28, List.forall_mem_cons.mpr ⟨cw29, List.forall_mem_cons.mpr ⟨cw30, List.forall_mem_cons.mpr ⟨cw31, List.forall_mem_cons.mpr ⟨cw32, List.forall_mem_cons.mpr ⟨cw33, List.forall_mem_cons.mpr ⟨cw34, List.forall_mem_cons.mpr ⟨cw35, List.forall_mem_cons.mpr ⟨cw36, List.forall_mem_cons.mpr ⟨cw37, List.forall_mem_cons.mpr ⟨cw38, List.forall_mem_cons.mpr ⟨cw39, List.forall_mem_cons.mpr ⟨cw40, List.forall_mem_cons.mpr ⟨cw41, List.forall_mem_cons.mpr ⟨cw42, List.forall_mem_cons.mpr ⟨cw43, List.forall_mem_cons.mpr ⟨cw44, List.forall_mem_cons.mpr ⟨cw45, List.forall_mem_cons.mpr ⟨cw46, List.forall_mem_cons.mpr ⟨cw47, List.forall_mem_cons.mpr ⟨cw48, List.forall_mem_cons.mpr ⟨cw49, List.forall_mem_cons.mpr ⟨cw50, List.forall_mem_cons.mpr ⟨cw51, List.forall_mem_cons.mpr ⟨cw52, List.forall_mem_cons.mpr ⟨cw53, List.forall_mem_cons.mpr ⟨cw54, List.forall_mem_cons.mpr ⟨cw55, List.forall_mem_cons.mpr ⟨cw56, List.forall_mem_cons.mpr ⟨cw57, List.forall_mem_cons.mpr ⟨cw58, List.forall_mem_cons.mpr ⟨cw59, List.forall_mem_cons.mpr ⟨cw60, fun _ h => absurd h List.not_mem_nil⟩⟩⟩⟩⟩⟩⟩⟩⟩⟩⟩⟩⟩⟩⟩⟩⟩⟩⟩⟩⟩⟩⟩⟩⟩⟩⟩⟩⟩⟩⟩⟩⟩⟩⟩⟩⟩⟩⟩⟩⟩⟩⟩⟩⟩⟩⟩⟩⟩⟩⟩⟩⟩⟩⟩⟩⟩⟩⟩⟩
def cwL1 : List Nat := [61, 62, 63, 64, 65, 66, 67, 68, 69, 70, 71, 72, 73, 74, 75, 76, 77, 78, 79, 80, 81, 82, 83, 84, 85, 86, 87, 88, 89, 90, 91, 92, 93, 94, 95, 96, 97, 98, 99, 100, 101, 102, 103, 104, 105, 106, 107, 108, 109, 110, 111, 112, 113, 114, 115, 116, 117, 118, 119, 120]
theorem cwR1 : ∀ y ∈ cwL1, CWd y := List.forall_mem_cons.mpr ⟨cw61, List.forall_mem_cons.mpr ⟨cw62, List.forall_mem_cons.mpr ⟨cw63, List.forall_mem_cons.mpr ⟨cw64, List.forall_mem_cons.mpr ⟨cw65, List.forall_mem_cons.mpr ⟨cw66, List.forall_mem_cons.mpr ⟨cw67, List.forall_mem_cons.mpr ⟨cw68, List.forall_mem_cons.mpr ⟨cw69, List.forall_mem_cons.mpr ⟨cw70, List.forall_mem_cons.mpr ⟨cw71, List.forall_mem_cons.mpr ⟨cw72, List.forall_mem_cons.mpr ⟨cw73, List.forall_mem_cons.mpr ⟨cw74, List.forall_mem_cons.mpr ⟨cw75, List.forall_mem_cons.mpr ⟨cw76, List.forall_mem_cons.mpr ⟨cw77, List.forall_mem_cons.mpr ⟨cw78, List.forall_mem_cons.mpr ⟨cw79, List.forall_mem_cons.mpr ⟨cw80, List.forall_mem_cons.mpr ⟨cw81, List.forall_mem_cons.mpr ⟨cw82, List.forall_mem_cons.mpr ⟨cw83, List.forall_mem_cons.mpr ⟨cw84, List.forall_mem_cons.mpr ⟨cw85, List.forall_mem_cons.mpr ⟨cw86, List.forall_mem_cons.mpr ⟨cw87, List.forall_mem_cons.mpr ⟨cw88, List.forall_mem_cons.mpr ⟨cw89, List.forall_mem_cons.mpr ⟨cw90, List.forall_mem_cons.mpr ⟨cw91, List.forall_mem_cons.mpr ⟨cw92, List.forall_mem_cons.mpr ⟨cw93, List.forall_mem_cons.mpr ⟨cw94, List.forall_mem_cons.mpr ⟨cw95, List.forall_mem_cons.mpr ⟨cw96, List.forall_mem_cons.mpr ⟨cw97, List.forall_mem_cons.mpr ⟨cw98, List.forall_mem_cons.mpr ⟨cw99, List.forall_mem_cons.mpr ⟨cw100, List.forall_mem_cons.mpr ⟨cw101, List.forall_mem_cons.mpr ⟨cw102, List.forall_mem_cons.mpr ⟨cw103, List.forall_mem_cons.mpr ⟨cw104, List.forall_mem_cons.mpr ⟨cw105, List.forall_mem_cons.mpr ⟨cw106, List.forall_mem_cons.mpr ⟨cw107, List.forall_mem_cons.mpr ⟨cw108, List.forall_mem_cons.mpr ⟨cw109, List.forall_mem_cons.mpr ⟨cw110, List.forall_mem_cons.mpr ⟨cw111, List.forall_mem_cons.mpr ⟨cw112, List.forall_mem_cons.mpr ⟨cw113, List.forall_mem_cons.mpr ⟨cw114, List.forall_mem_cons.mpr ⟨cw115, List.forall_mem_cons.mpr ⟨cw116, List.forall_mem_cons.mpr ⟨cw117, List.forall_mem_cons.mpr ⟨cw118, List.forall_mem_cons.mpr ⟨cw119, List.forall_mem_cons.mpr ⟨cw120, fun _ h => absurd h List.not_mem_nil⟩⟩⟩⟩⟩⟩⟩⟩⟩⟩⟩⟩⟩⟩⟩⟩⟩⟩⟩⟩⟩⟩⟩⟩⟩⟩⟩⟩⟩⟩⟩⟩⟩⟩⟩⟩⟩⟩⟩⟩⟩⟩⟩⟩⟩⟩⟩⟩⟩⟩⟩⟩⟩⟩⟩⟩⟩⟩⟩⟩
def cwL2 : List Nat := [121, 122, 123, 124, 125, 126, 127, 128, 129, 130, 131, 132, 133, 134, 135, 136, 137, 138, 139, 140, 141, 142, 143, 144, 145, 146, 147, 148, 149, 150, 151, 152, 153, 154, 155, 156, 157, 158, 159, 160, 161, 162, 163, 164, 165, 166, 167, 168, 169, 170, 171, 172, 173, 174, 175, 176, 177, 178, 179, 180]
theorem cwR2 : ∀ y ∈ cwL2, CWd y := List.forall_mem_cons.mpr ⟨cw121, List.forall_mem_cons.mpr ⟨cw122, List.forall_mem_cons.mpr ⟨cw123, List.forall_mem_cons.mpr ⟨cw124, List.forall_mem_cons.mpr ⟨cw125, List.forall_mem_cons.mpr ⟨cw126, List.forall_mem_cons.mpr ⟨cw127, List.forall_mem_cons.mpr ⟨cw128, List.forall_mem_cons.mpr ⟨cw129, List.forall_mem_cons.mpr ⟨cw130, List.forall_mem_cons.mpr ⟨cw131, List.forall_mem_cons.mpr ⟨cw132, List.forall_mem_cons.mpr ⟨cw133, List.forall_mem_cons.mpr ⟨cw134, List.forall_mem_cons.mpr ⟨cw135, List.forall_mem_cons.mpr ⟨cw136, List.forall_mem_cons.mpr ⟨cw137, List.forall_mem_cons.mpr ⟨cw138, List.forall_mem_cons.mpr ⟨cw139, List.forall_mem_cons.mpr ⟨cw140, List.forall_mem_cons.mpr ⟨cw141, List.forall_mem_cons.mpr ⟨cw142, List.forall_mem_cons.mpr ⟨cw143, List.forall_mem_cons.mpr ⟨cw144, List.forall_mem_cons.mpr ⟨cw145, List.forall_mem_cons.mpr ⟨cw146, List.forall_mem_cons.mpr ⟨cw147, List.forall_mem_cons.mpr ⟨cw148, List.forall_mem_cons.mpr ⟨cw149, List.forall_mem_cons.mpr ⟨cw150, List.forall_mem_cons.mpr ⟨cw151, List.forall_mem_cons.mpr ⟨cw152, List.forall_mem_cons.mpr ⟨cw153, List.forall_mem_cons.mpr ⟨cw154, List.forall_mem_cons.mpr ⟨cw155, List.forall_mem_cons.mpr ⟨cw156, List.forall_mem_cons.mpr ⟨cw157, List.forall_mem_cons.mpr ⟨cw158, List.forall_mem_cons.mpr ⟨cw159, List.forall_mem_cons.mpr ⟨cw160, List.forall_mem_cons.mpr ⟨cw161, List.forall_mem_cons.mpr ⟨cw162, List.forall_mem_cons.mpr ⟨cw163, List.forall_mem_cons.mpr ⟨cw164, List.forall_mem_cons.mpr ⟨cw165, List.forall_mem_cons.mpr ⟨cw166, List.forall_mem_cons.mpr ⟨cw167, List.forall_mem_cons.mpr ⟨cw168, List.forall_mem_cons.mpr ⟨cw169, List.forall_mem_cons.mpr ⟨cw170, List.forall_mem_cons.mpr ⟨cw171, List.forall_mem_cons.mpr ⟨cw172, List.forall_mem_cons.mpr ⟨cw173, List.forall_mem_cons.mpr ⟨cw174, List.forall_mem_cons.mpr ⟨cw175, List.forall_mem_cons.mpr ⟨cw176, List.forall_mem_cons.mpr ⟨cw177, List.forall_mem_cons.mpr ⟨cw178, List.forall_mem_cons.mpr ⟨cw179, List.forall_mem_cons.mpr ⟨cw180, fun _ h => absurd h List.not_mem_nil⟩⟩⟩⟩⟩⟩⟩⟩⟩⟩⟩⟩⟩⟩⟩⟩⟩⟩⟩⟩⟩⟩⟩⟩⟩⟩⟩⟩⟩⟩⟩⟩⟩⟩⟩⟩⟩⟩⟩⟩⟩⟩⟩⟩⟩⟩⟩⟩⟩⟩⟩⟩⟩⟩⟩⟩⟩⟩⟩⟩
def cwL3 : List Nat := [181, 182, 183, 184, 185, 186, 187, 188, 189, 190, 191, 192, 193, 194, 195, 196, 197, 198, 199, 200, 201, 202, 203, 204, 205, 206, 207, 208, 209, 210, 211, 212, 213, 214, 215, 216, 217, 218, 219, 220, 221, 222, 223, 224, 225, 226, 227, 228, 229, 230, 231, 232, 233, 234, 235, 236, 237, 238, 239, 240]
theorem cwR3 : ∀ y ∈ cwL3, CWd y := List.forall_mem_cons.mpr ⟨cw181, List.forall_mem_cons.mpr ⟨cw182, List.forall_mem_cons.mpr ⟨cw183, List.forall_mem_cons.mpr ⟨cw184, List.forall_mem_cons.mpr ⟨cw185, List.forall_mem_cons.mpr ⟨cw186, List.forall_mem_cons.mpr ⟨cw187, List.forall_mem_cons.mpr ⟨cw188, List.forall_mem_cons.mpr ⟨cw189, List.forall_mem_cons.mpr ⟨cw190, List.forall_mem_cons.mpr ⟨cw191, List.forall_mem_cons.mpr ⟨cw192, List.forall_mem_cons.mpr ⟨cw193, List.forall_mem_cons.mpr ⟨cw194, List.forall_mem_cons.mpr ⟨cw195, List.forall_mem_cons.mpr ⟨cw196, List.forall_mem_cons.mpr ⟨cw197, List.forall_mem_cons.mpr ⟨cw198, List.forall_mem_cons.mpr ⟨cw199, List.forall_mem_cons.mpr ⟨cw200, List.forall_mem_cons.mpr ⟨cw201, List.forall_mem_cons.mpr ⟨cw202, List.forall_mem_cons.mpr ⟨cw203, List.forall_mem_cons.mpr ⟨cw204, List.forall_mem_cons.mpr ⟨cw205, List.forall_mem_cons.mpr ⟨cw206, List.forall_mem_cons.mpr ⟨cw207, List.forall_mem_cons.mpr ⟨cw208, List.forall_mem_cons.mpr ⟨cw209, List.forall_mem_cons.mpr ⟨cw210, List.forall_mem_cons.mpr ⟨cw211, List.forall_mem_cons.mpr ⟨cw212, List.forall_mem_cons.mpr ⟨cw213, List.forall_mem_cons.mpr ⟨cw214, List.forall_mem_cons.mpr ⟨cw215, List.forall_mem_cons.mpr ⟨cw216, List.forall_mem_cons.mpr ⟨cw217, List.forall_mem_cons.mpr ⟨cw218, List.forall_mem_cons.mpr ⟨cw219, List.forall_mem_cons.mpr ⟨cw220, List.forall_mem_cons.mpr ⟨cw221, List.forall_mem_cons.mpr ⟨cw222, List.forall_mem_cons.mpr ⟨cw223, List.forall_mem_cons.mpr ⟨cw224, List.forall_mem_cons.mpr ⟨cw225, List.forall_mem_cons.mpr ⟨cw226, List.forall_mem_cons.mpr ⟨cw227, List.forall_mem_cons.mpr ⟨cw228, List.forall_mem_cons.mpr ⟨cw229, List.forall_mem_cons.mpr ⟨cw230, List.forall_mem_cons.mpr ⟨cw231, List.forall_mem_cons.mpr ⟨cw232, List.forall_mem_cons.mpr ⟨cw233, List.forall_mem_cons.mpr ⟨cw234, List.forall_mem_cons.mpr ⟨cw235, List.forall_mem_cons.mpr ⟨cw236, List.forall_mem_cons.mpr ⟨cw237, List.forall_mem_cons.mpr ⟨cw238, List.forall_mem_cons.mpr ⟨cw239, List.forall_mem_cons.mpr ⟨cw240, fun _ h => absurd h List.not_mem_nil⟩⟩⟩⟩⟩⟩⟩⟩⟩⟩⟩⟩⟩⟩⟩⟩⟩⟩⟩⟩⟩⟩⟩⟩⟩⟩⟩⟩⟩⟩⟩⟩⟩⟩⟩⟩⟩⟩⟩⟩⟩⟩⟩⟩⟩⟩⟩⟩⟩⟩⟩⟩⟩⟩⟩⟩⟩⟩⟩⟩
def cwL4 : List Nat := [241, 242, 243, 244, 245, 246, 247, 248, 249, 250, 251, 252, 253, 254, 255, 256, 257, 258, 259, 260, 261, 262, 263, 264, 265, 266, 267, 268, 269, 270, 271, 272, 273, 274, 275, 276, 277, 278, 279, 280, 281, 282, 283, 284, 285, 286, 287, 288, 289, 290, 291, 292, 293, 294, 295, 296, 297, 298, 299, 300]
theorem cwR4 : ∀ y ∈ cwL4, CWd y := List.forall_mem_cons.mpr ⟨cw241, List.forall_mem_cons.mpr ⟨cw242, List.forall_mem_cons.mpr ⟨cw243, List.forall_mem_cons.mpr ⟨cw244, List.forall_mem_cons.mpr ⟨cw245, List.forall_mem_cons.mpr ⟨cw246, List.forall_mem_cons.mpr ⟨cw247, List.forall_mem_cons.mpr ⟨cw248, List.forall_mem_cons.mpr ⟨cw249, List.forall_mem_cons.mpr ⟨cw250, List.forall_mem_cons.mpr ⟨cw251, List.forall_mem_cons.mpr ⟨cw252, List.forall_mem_cons.mpr ⟨cw253, List.forall_mem_cons.mpr ⟨cw254, List.forall_mem_cons.mpr ⟨cw255, List.forall_mem_cons.mpr ⟨cw256, List.forall_mem_cons.mpr ⟨cw257, List.forall_mem_cons.mpr ⟨cw258, List.forall_mem_cons.mpr ⟨cw259, List.forall_mem_cons.mpr ⟨cw260, List.forall_mem_cons.mpr ⟨cw261, List.forall_mem_cons.mpr ⟨cw262, List.forall_mem_cons.mpr ⟨cw263, List.forall_mem_cons.mpr ⟨cw264, List.forall_mem_cons.mpr ⟨cw265, List.forall_mem_cons.mpr ⟨cw266, List.forall_mem_cons.mpr ⟨cw267, List.forall_mem_cons.mpr ⟨cw268, List.forall_mem_cons.mpr ⟨cw269, List.forall_mem_cons.mpr ⟨cw270, List.forall_mem_cons.mpr ⟨cw271, List.forall_mem_cons.mpr ⟨cw272, List.forall_mem_cons.mpr ⟨cw273, List.forall_mem_cons.mpr ⟨cw274, List.forall_mem_cons.mpr ⟨cw275, List.forall_mem_cons.mpr ⟨cw276, List.forall_mem_cons.mpr ⟨cw277, List.forall_mem_cons.mpr ⟨cw278, List.forall_mem_cons.mpr ⟨cw279, List.forall_mem_cons.mpr ⟨cw280, List.forall_mem_cons.mpr ⟨cw281, List.forall_mem_cons.mpr ⟨cw282, List.forall_mem_cons.mpr ⟨cw283, List.forall_mem_cons.mpr ⟨cw284, List.forall_mem_cons.mpr ⟨cw285, List.forall_mem_cons.mpr ⟨cw286, List.forall_mem_cons.mpr ⟨cw287, List.forall_mem_cons.mpr ⟨cw288, List.forall_mem_cons.mpr ⟨cw289, List.forall_mem_cons.mpr ⟨cw290, List.forall_mem_cons.mpr ⟨cw291, List.forall_mem_cons.mpr ⟨cw292, List.forall_mem_cons.mpr ⟨cw293, List.forall_mem_cons.mpr ⟨cw294, List.forall_mem_cons.mpr ⟨cw295, List.forall_mem_cons.mpr ⟨cw296, List.forall_mem_cons.mpr ⟨cw297, List.forall_mem_cons.mpr ⟨cw298, List.forall_mem_cons.mpr ⟨cw299, List.forall_mem_cons.mpr ⟨cw300, fun _ h => absurd h List.not_mem_nil⟩⟩⟩⟩⟩⟩⟩⟩⟩⟩⟩⟩⟩⟩⟩⟩⟩⟩⟩⟩⟩⟩⟩⟩⟩⟩⟩⟩⟩⟩⟩⟩⟩⟩⟩⟩⟩⟩⟩⟩⟩⟩⟩⟩⟩⟩⟩⟩⟩⟩⟩⟩⟩⟩⟩⟩⟩⟩⟩⟩
def cwL5 : List Nat := [301, 302, 303, 304, 305, 306, 307, 308, 309, 310, 311, 312, 313, 314, 315, 316, 317, 318, 319, 320, 321, 322, 323, 324, 325, 326, 327, 328, 329, 330, 331, 332, 333, 334, 335, 336, 337, 338, 339, 340, 341, 342, 343, 344, 345, 346, 347, 348, 349, 350, 351, 352, 353, 354, 355, 356]
theorem cwR5 : ∀ y ∈ cwL5, CWd y := List.forall_mem_cons.mpr ⟨cw301, List.forall_mem_cons.mpr ⟨cw302, List.forall_mem_cons.mpr ⟨cw303, List.forall_mem_cons.mpr ⟨cw304, List.forall_mem_cons.mpr ⟨cw305, List.forall_mem_cons.mpr ⟨cw306, List.forall_mem_cons.mpr ⟨cw307, List.forall_mem_cons.mpr ⟨cw308, List.forall_mem_cons.mpr ⟨cw309, List.forall_mem_cons.mpr ⟨cw310, List.forall_mem_cons.mpr ⟨cw311, List.forall_mem_cons.mpr ⟨cw312, List.forall_mem_cons.mpr ⟨cw313, List.forall_mem_cons.mpr ⟨cw314, List.forall_mem_cons.mpr ⟨cw315, List.forall_mem_cons.mpr ⟨cw316, List.forall_mem_cons.mpr ⟨cw317, List.forall_mem_cons.mpr ⟨cw318, List.forall_mem_cons.mpr ⟨cw319, List.forall_mem_cons.mpr ⟨cw320, List.forall_mem_cons.mpr ⟨cw321, List.forall_mem_cons.mpr ⟨cw322, List.forall_mem_cons.mpr ⟨cw323, List.forall_mem_cons.mpr ⟨cw324, List.forall_mem_cons.mpr ⟨cw325, List.forall_mem_cons.mpr ⟨cw326, List.forall_mem_cons.mpr ⟨cw327, List.forall_mem_cons.mpr ⟨cw328, List.forall_mem_cons.mpr ⟨cw329, List.forall_mem_cons.mpr ⟨cw330, List.forall_mem_cons.mpr ⟨cw331, List.forall_mem_cons.mpr ⟨cw332, List.forall_mem_cons.mpr ⟨cw333, List.forall_mem_cons.mpr ⟨cw334, List.forall_mem_cons.mpr ⟨cw335, List.forall_mem_cons.mpr ⟨cw336, List.forall_mem_cons.mpr ⟨cw337, List.forall_mem_cons.mpr ⟨cw338, List.forall_mem_cons.mpr ⟨cw339, List.forall_mem_cons.mpr ⟨cw340, List.forall_mem_cons.mpr ⟨cw341, List.forall_mem_cons.mpr ⟨cw342, List.forall_mem_cons.mpr ⟨cw343, List.forall_mem_cons.mpr ⟨cw344, List.forall_mem_cons.mpr ⟨cw345, List.forall_mem_cons.mpr ⟨cw346, List.forall_mem_cons.mpr ⟨cw347, List.forall_mem_cons.mpr ⟨cw348, List.forall_mem_cons.mpr ⟨cw349, List.forall_mem_cons.mpr ⟨cw350, List.forall_mem_cons.mpr ⟨cw351, List.forall_mem_cons.mpr ⟨cw352, List.forall_mem_cons.mpr ⟨cw353, List.forall_mem_cons.mpr ⟨cw354, List.forall_mem_cons.mpr ⟨cw355, List.forall_mem_cons.mpr ⟨cw356, fun _ h => absurd h List.not_mem_nil⟩⟩⟩⟩⟩⟩⟩⟩⟩⟩⟩⟩⟩⟩⟩⟩⟩⟩⟩⟩⟩⟩⟩⟩⟩⟩⟩⟩⟩⟩⟩⟩⟩⟩⟩⟩⟩⟩⟩⟩⟩⟩⟩⟩⟩⟩⟩⟩⟩⟩⟩⟩⟩⟩⟩⟩
theorem cw_all : ∀ y, 0 < y → y < 357 → CWd y := by
  have h0 : ∀ y, y < 357 → (y == 0 || cwL0.contains y || cwL1.contains y || cwL2.contains y || cwL3.contains y || cwL4.contains y || cwL5.contains y) = true := by decide +kernel
  intro y h1 h2
  have h := h0 y h2
  simp only [Bool.or_eq_true, List.contains_iff_mem, beq_iff_eq] at h
  rcases h with ((((((h | h)| h)| h)| h)| h)| h)
  · omega
  · exact cwR0 y h
  · exact cwR1 y h
  · exact cwR2 y h
  · exact cwR3 y h
  · exact cwR4 y h
  · exact cwR5 y h
def catT : List Nat := [12, 20, 21, 22, 23, 24, 25]
def xyes (t c : Nat) : Bool := t == c || (t == 22 && c == 25)
def XC (t c : Nat) : Prop := (xyes t c = true ∧ (cnm t = cnm c ∨ Cond.castable (cnm t) (cnm c) ∈ lw_tbl)) ∨ (xyes t c = false ∧ Cond.not (.castable (cnm t) (cnm c)) ∈ flatC (Cond.and given_1 narrow_1))
theorem xc_12_20 : Cond.not (.castable (cnm 12) (cnm 20)) ∈ flatC (Cond.and given_1 narrow_1) := List.mem_of_getElem? (i := 43) (by decide +kernel)
theorem xc_12_21 : Cond.not (.castable (cnm 12) (cnm 21)) ∈ flatC (Cond.and given_1 narrow_1) := List.mem_of_getElem? (i := 25) (by decide +kernel)
theorem xc_12_22 : Cond.not (.castable (cnm 12) (cnm 22)) ∈ flatC (Cond.and given_1 narrow_1) := List.mem_of_getElem? (i := 61) (by decide +kernel)
theorem xc_12_23 : Cond.not (.castable (cnm 12) (cnm 23)) ∈ flatC (Cond.and given_1 narrow_1) := List.mem_of_getElem? (i := 79) (by decide +kernel)
theorem xc_12_24 : Cond.not (.castable (cnm 12) (cnm 24)) ∈ flatC (Cond.and given_1 narrow_1) := List.mem_of_getElem? (i := 116) (by decide +kernel)
theorem xc_12_25 : Cond.not (.castable (cnm 12) (cnm 25)) ∈ flatC (Cond.and given_1 narrow_1) := List.mem_of_getElem? (i := 133) (by decide +kernel)
theorem xcr_12 : ∀ c ∈ catT, XC 12 c := List.forall_mem_cons.mpr ⟨Or.inl ⟨rfl, Or.inl rfl⟩, List.forall_mem_cons.mpr ⟨Or.inr ⟨rfl, xc_12_20⟩, List.forall_mem_cons.mpr ⟨Or.inr ⟨rfl, xc_12_21⟩, List.forall_mem_cons.mpr ⟨Or.inr ⟨rfl, xc_12_22⟩, List.forall_mem_cons.mpr ⟨Or.inr ⟨rfl, xc_12_23⟩, List.forall_mem_cons.mpr ⟨Or.inr ⟨rfl, xc_12_24⟩, List.forall_mem_cons.mpr ⟨Or.inr ⟨rfl, xc_12_25⟩, fun _ h => absurd h List.not_mem_nil⟩⟩⟩⟩⟩⟩⟩
theorem xc_20_12 : Cond.not (.castable (cnm 20) (cnm 12)) ∈ flatC (Cond.and given_1 narrow_1) := List.mem_of_getElem? (i := 87) (by decide +kernel)
theorem xc_20_21 : Cond.not (.castable (cnm 20) (cnm 21)) ∈ flatC (Cond.and given_1 narrow_1) := List.mem_of_getElem? (i := 14) (by decide +kernel)
theorem xc_20_22 : Cond.not (.castable (cnm 20) (cnm 22)) ∈ flatC (Cond.and given_1 narrow_1) := List.mem_of_getElem? (i := 51) (by decide +kernel)
theorem xc_20_23 : Cond.not (.castable (cnm 20) (cnm 23)) ∈ flatC (Cond.and given_1 narrow_1) := List.mem_of_getElem? (i := 69) (by decide +kernel)
theorem xc_20_24 : Cond.not (.castable (cnm 20) (cnm 24)) ∈ flatC (Cond.and given_1 narrow_1) := List.mem_of_getElem? (i := 105) (by decide +kernel)
theorem xc_20_25 : Cond.not (.castable (cnm 20) (cnm 25)) ∈ flatC (Cond.and given_1 narrow_1) := List.mem_of_getElem? (i := 123) (by decide +kernel)
theorem xcr_20 : ∀ c ∈ catT, XC 20 c := List.forall_mem_cons.mpr ⟨Or.inr ⟨rfl, xc_20_12⟩, List.forall_mem_cons.mpr ⟨Or.inl ⟨rfl, Or.inl rfl⟩, List.forall_mem_cons.mpr ⟨Or.inr ⟨rfl, xc_20_21⟩, List.forall_mem_cons.mpr ⟨Or.inr ⟨rfl, xc_20_22⟩, List.forall_mem_cons.mpr ⟨Or.inr ⟨rfl, xc_20_23⟩, List.forall_mem_cons.mpr ⟨Or.inr ⟨rfl, xc_20_24⟩, List.forall_mem_cons.mpr ⟨Or.inr ⟨rfl, xc_20_25⟩, fun _ h => absurd h List.not_mem_nil⟩⟩⟩⟩⟩⟩⟩
theorem xc_21_12 : Cond.not (.castable (cnm 21) (cnm 12)) ∈ flatC (Cond.and given_1 narrow_1) := List.mem_of_getElem? (i := 86) (by decide +kernel)
theorem xc_21_20 : Cond.not (.castable (cnm 21) (cnm 20)) ∈ flatC (Cond.and given_1 narrow_1) := List.mem_of_getElem? (i := 32) (by decide +kernel)
theorem xc_21_22 : Cond.not (.castable (cnm 21) (cnm 22)) ∈ flatC (Cond.and given_1 narrow_1) := List.mem_of_getElem? (i := 50) (by decide +kernel)
theorem xc_21_23 : Cond.not (.castable (cnm 21) (cnm 23)) ∈ flatC (Cond.and given_1 narrow_1) := List.mem_of_getElem? (i := 68) (by decide +kernel)
theorem xc_21_24 : Cond.not (.castable (cnm 21) (cnm 24)) ∈ flatC (Cond.and given_1 narrow_1) := List.mem_of_getElem? (i := 104) (by decide +kernel)
theorem xc_21_25 : Cond.not (.castable (cnm 21) (cnm 25)) ∈ flatC (Cond.and given_1 narrow_1) := List.mem_of_getElem? (i := 122) (by decide +kernel)
theorem xcr_21 : ∀ c ∈ catT, XC 21 c := List.forall_mem_cons.mpr ⟨Or.inr ⟨rfl, xc_21_12⟩, List.forall_mem_cons.mpr ⟨Or.inr ⟨rfl, xc_21_20⟩, List.forall_mem_cons.mpr ⟨Or.inl ⟨rfl, Or.inl rfl⟩, List.forall_mem_cons.mpr ⟨Or.inr ⟨rfl, xc_21_22⟩, List.forall_mem_cons.mpr ⟨Or.inr ⟨rfl, xc_21_23⟩, List.forall_mem_cons.mpr ⟨Or.inr ⟨rfl, xc_21_24⟩, List.forall_mem_cons.mpr ⟨Or.inr ⟨rfl, xc_21_25⟩, fun _ h => absurd h List.not_mem_nil⟩⟩⟩⟩⟩⟩⟩
theorem xc_22_12 : Cond.not (.castable (cnm 22) (cnm 12)) ∈ flatC (Cond.and given_1 narrow_1) := List.mem_of_getElem? (i := 88) (by decide +kernel)
theorem xc_22_20 : Cond.not (.castable (cnm 22) (cnm 20)) ∈ flatC (Cond.and given_1 narrow_1) := List.mem_of_getElem? (i := 33) (by decide +kernel)
theorem xc_22_21 : Cond.not (.castable (cnm 22) (cnm 21)) ∈ flatC (Cond.and given_1 narrow_1) := List.mem_of_getElem? (i := 15) (by decide +kernel)
theorem xc_22_23 : Cond.not (.castable (cnm 22) (cnm 23)) ∈ flatC (Cond.and given_1 narrow_1) := List.mem_of_getElem? (i := 70) (by decide +kernel)
theorem xc_22_24 : Cond.not (.castable (cnm 22) (cnm 24)) ∈ flatC (Cond.and given_1 narrow_1) := List.mem_of_getElem? (i := 106) (by decide +kernel)
theorem xcr_22 : ∀ c ∈ catT, XC 22 c := List.forall_mem_cons.mpr ⟨Or.inr ⟨rfl, xc_22_12⟩, List.forall_mem_cons.mpr ⟨Or.inr ⟨rfl, xc_22_20⟩, List.forall_mem_cons.mpr ⟨Or.inr ⟨rfl, xc_22_21⟩, List.forall_mem_cons.mpr ⟨Or.inl ⟨rfl, Or.inl rfl⟩, List.forall_mem_cons.mpr ⟨Or.inr ⟨rfl, xc_22_23⟩, List.forall_mem_cons.mpr ⟨Or.inr ⟨rfl, xc_22_24⟩, List.forall_mem_cons.mpr ⟨Or.inl ⟨rfl, Or.inr q2655⟩, fun _ h => absurd h List.not_mem_nil⟩⟩⟩⟩⟩⟩⟩
theorem xc_23_12 : Cond.not (.castable (cnm 23) (cnm 12)) ∈ flatC (Cond.and given_1 narrow_1) := List.mem_of_getElem? (i := 97) (by decide +kernel)
theorem xc_23_20 : Cond.not (.castable (cnm 23) (cnm 20)) ∈ flatC (Cond.and given_1 narrow_1) := List.mem_of_getElem? (i := 42) (by decide +kernel)
theorem xc_23_21 : Cond.not (.castable (cnm 23) (cnm 21)) ∈ flatC (Cond.and given_1 narrow_1) := List.mem_of_getElem? (i := 24) (by decide +kernel)
theorem xc_23_22 : Cond.not (.castable (cnm 23) (cnm 22)) ∈ flatC (Cond.and given_1 narrow_1) := List.mem_of_getElem? (i := 60) (by decide +kernel)
theorem xc_23_24 : Cond.not (.castable (cnm 23) (cnm 24)) ∈ flatC (Cond.and given_1 narrow_1) := List.mem_of_getElem? (i := 115) (by decide +kernel)
theorem xc_23_25 : Cond.not (.castable (cnm 23) (cnm 25)) ∈ flatC (Cond.and given_1 narrow_1) := List.mem_of_getElem? (i := 132) (by decide +kernel)
theorem xcr_23 : ∀ c ∈ catT, XC 23 c := List.forall_mem_cons.mpr ⟨Or.inr ⟨rfl, xc_23_12⟩, List.forall_mem_cons.mpr ⟨Or.inr ⟨rfl, xc_23_20⟩, List.forall_mem_cons.mpr ⟨Or.inr ⟨rfl, xc_23_21⟩, List.forall_mem_cons.mpr ⟨Or.inr ⟨rfl, xc_23_22⟩, List.forall_mem_cons.mpr ⟨Or.inl ⟨rfl, Or.inl rfl⟩, List.forall_mem_cons.mpr ⟨Or.inr ⟨rfl, xc_23_24⟩, List.forall_mem_cons.mpr ⟨Or.inr ⟨rfl, xc_23_25⟩, fun _ h => absurd h List.not_mem_nil⟩⟩⟩⟩⟩⟩⟩
theorem xc_24_12 : Cond.not (.castable (cnm 24) (cnm 12)) ∈ flatC (Cond.and given_1 narrow_1) := List.mem_of_getElem? (i := 99) (by decide +kernel)
theorem xc_24_20 : Cond.not (.castable (cnm 24) (cnm 20)) ∈ flatC (Cond.and given_1 narrow_1) := List.mem_of_getElem? (i := 45) (by decide +kernel)
theorem xc_24_21 : Cond.not (.castable (cnm 24) (cnm 21)) ∈ flatC (Cond.and given_1 narrow_1) := List.mem_of_getElem? (i := 27) (by decide +kernel)
theorem xc_24_22 : Cond.not (.castable (cnm 24) (cnm 22)) ∈ flatC (Cond.and given_1 narrow_1) := List.mem_of_getElem? (i := 63) (by decide +kernel)
theorem xc_24_23 : Cond.not (.castable (cnm 24) (cnm 23)) ∈ flatC (Cond.and given_1 narrow_1) := List.mem_of_getElem? (i := 81) (by decide +kernel)
theorem xc_24_25 : Cond.not (.castable (cnm 24) (cnm 25)) ∈ flatC (Cond.and given_1 narrow_1) := List.mem_of_getElem? (i := 135) (by decide +kernel)
theorem xcr_24 : ∀ c ∈ catT, XC 24 c := List.forall_mem_cons.mpr ⟨Or.inr ⟨rfl, xc_24_12⟩, List.forall_mem_cons.mpr ⟨Or.inr ⟨rfl, xc_24_20⟩, List.forall_mem_cons.mpr ⟨Or.inr ⟨rfl, xc_24_21⟩, List.forall_mem_cons.mpr ⟨Or.inr ⟨rfl, xc_24_22⟩, List.forall_mem_cons.mpr ⟨Or.inr ⟨rfl, xc_24_23⟩, List.forall_mem_cons.mpr ⟨Or.inl ⟨rfl, Or.inl rfl⟩, List.forall_mem_cons.mpr ⟨Or.inr ⟨rfl, xc_24_25⟩, fun _ h => absurd h List.not_mem_nil⟩⟩⟩⟩⟩⟩⟩
theorem xc_all : ∀ t ∈ excT, ∀ c ∈ catT, XC t c := List.forall_mem_cons.mpr ⟨xcr_12, List.forall_mem_cons.mpr ⟨xcr_20, List.forall_mem_cons.mpr ⟨xcr_21, List.forall_mem_cons.mpr ⟨xcr_22, List.forall_mem_cons.mpr ⟨xcr_23, List.forall_mem_cons.mpr ⟨xcr_24, fun _ h => absurd h List.not_mem_nil⟩⟩⟩⟩⟩⟩
